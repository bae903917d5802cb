/-! THREADTOWN READS: numbers, names -/
set_option maxRecDepth 100000
section XTOLD
variable {G : am_G} {L L' : am_L} {h h' : am_H} {x D N a t c : Int} {b : Int → Int} {d : Nat} {Q : am_O → am_L → am_H → Prop} {u : PS}
/-- the fault n at token tk is thrown -/
def FX1 (h : am_H) (x : Int) (b : Int → Int) (D n tk : Int) : Prop := h (x + 1) 6 = n ∧ h (x + 1) 7 = sP b D tk
/-- what the parser holds beside the text -/
def PsX (h : am_H) (x t a : Int) (u : PS) : Prop := h (x + 9) 2 = t ∧ h (x + 9) 3 = a ∧ h (x + 9) 4 = 0 ∧ h (x + 9) 5 = uW u ∧ (uW u = 0 ∨ h (x + 9) 6 = uV u)
theorem C_X3_tell {n tk : Int} (hK : MkL L x) (hP : PsX h x t a u) (hn : 0 ≤ n ∧ n ≤ 9) (htk : 0 ≤ tk ∧ tk ≤ 2000) (k : ∀ h', (∀ y, y ≠ x + 9 → h' y = h y) → PsX h' x t a (pTell n tk u) → Q (.inl []) L h') : am_C G mX3_tell (d + 1) [aR (x + 9), aI n, aI tk] L h Q := by
  obtain ⟨p1, p2, p3, p4, p5⟩ := hP
  have k1 : uW u ≠ 0 ∧ (uV u < tk ∨ (tk = uV u ∧ uW u ≤ n)) → Q (.inl []) L h := fun z => k h (fun _ _ => rfl) (by unfold pTell; rw [if_pos z]; exact ⟨p1, p2, p3, p4, p5⟩)
  have k2 : ¬ (uW u ≠ 0 ∧ (uV u < tk ∨ (tk = uV u ∧ uW u ≤ n))) → Q (.inl []) L (am_st (am_st h (x + 9) 5 n) (x + 9) 6 tk) := fun z => k _ (fun y q => by rw [am_st_o q, am_st_o q]) (by
    unfold pTell
    rw [if_neg z]
    refine ⟨?_, ?_, ?_, ?_, ?_⟩
    · simp (disch := omega) only [am_st_i, am_st_s]; exact p1
    · simp (disch := omega) only [am_st_i, am_st_s]; exact p2
    · simp (disch := omega) only [am_st_i, am_st_s]; exact p3
    · simp (disch := omega) only [am_st_i, am_st_s]; rfl
    · refine Or.inr ?_
      simp (disch := omega) only [am_st_i, am_st_s]; rfl)
  refine x_start okX3_tell rfl rfl rfl rfl ?_
  refine x_aload_0 dX3_tell_0 ?_
  refine x_getI_ dX3_tell_1 fl301_3 (by first | (exact MkL.k_parser (by assumption)) | (assumption)) (fun r1 => ?_)
  rw [p4] at r1 ⊢
  refine x_if_eq (tgt := 32) dX3_tell_4 rfl (by omega) (fun c4 => ?_) (fun c4 => ?_)
  · refine x_aload_0 dX3_tell_32 ?_
    refine x_iload_1 dX3_tell_33 ?_
    refine x_putI_ dX3_tell_34 fl301_3 (by first | (exact MkL.k_parser (by assumption)) | (assumption)) (by omega) ?_
    refine x_aload_0 dX3_tell_37 ?_
    refine x_iload_2 dX3_tell_38 ?_
    refine x_putI_ dX3_tell_39 fl302_3 (by first | (exact MkL.k_parser (by assumption)) | (assumption)) (by omega) ?_
    refine x_ret dX3_tell_42 rfl ?_
    first
    | exact k1 (by omega)
    | exact k2 (by omega)
  · refine x_iload_2 dX3_tell_7 ?_
    refine x_aload_0 dX3_tell_8 ?_
    refine x_getI_ dX3_tell_9 fl302_3 (by first | (exact MkL.k_parser (by assumption)) | (assumption)) (fun r9 => ?_)
    rw [(p5.resolve_left (by omega))] at r9 ⊢
    refine x_icmp_gt (tgt := 31) dX3_tell_12 rfl (by omega) (by omega) (fun c12 => ?_) (fun c12 => ?_)
    · refine x_ret dX3_tell_31 rfl ?_
      first
      | exact k1 (by omega)
      | exact k2 (by omega)
    · refine x_iload_2 dX3_tell_15 ?_
      refine x_aload_0 dX3_tell_16 ?_
      refine x_getI_ dX3_tell_17 fl302_3 (by first | (exact MkL.k_parser (by assumption)) | (assumption)) (fun r17 => ?_)
      rw [(p5.resolve_left (by omega))] at r17 ⊢
      refine x_icmp_ne (tgt := 32) dX3_tell_20 rfl (by omega) (by omega) (fun c20 => ?_) (fun c20 => ?_)
      · refine x_aload_0 dX3_tell_32 ?_
        refine x_iload_1 dX3_tell_33 ?_
        refine x_putI_ dX3_tell_34 fl301_3 (by first | (exact MkL.k_parser (by assumption)) | (assumption)) (by omega) ?_
        refine x_aload_0 dX3_tell_37 ?_
        refine x_iload_2 dX3_tell_38 ?_
        refine x_putI_ dX3_tell_39 fl302_3 (by first | (exact MkL.k_parser (by assumption)) | (assumption)) (by omega) ?_
        refine x_ret dX3_tell_42 rfl ?_
        first
        | exact k1 (by omega)
        | exact k2 (by omega)
      · refine x_iload_1 dX3_tell_23 ?_
        refine x_aload_0 dX3_tell_24 ?_
        refine x_getI_ dX3_tell_25 fl301_3 (by first | (exact MkL.k_parser (by assumption)) | (assumption)) (fun r25 => ?_)
        rw [p4] at r25 ⊢
        refine x_icmp_lt (tgt := 32) dX3_tell_28 rfl (by omega) (by omega) (fun c28 => ?_) (fun c28 => ?_)
        · refine x_aload_0 dX3_tell_32 ?_
          refine x_iload_1 dX3_tell_33 ?_
          refine x_putI_ dX3_tell_34 fl301_3 (by first | (exact MkL.k_parser (by assumption)) | (assumption)) (by omega) ?_
          refine x_aload_0 dX3_tell_37 ?_
          refine x_iload_2 dX3_tell_38 ?_
          refine x_putI_ dX3_tell_39 fl302_3 (by first | (exact MkL.k_parser (by assumption)) | (assumption)) (by omega) ?_
          refine x_ret dX3_tell_42 rfl ?_
          first
          | exact k1 (by omega)
          | exact k2 (by omega)
        · refine x_ret dX3_tell_31 rfl ?_
          first
          | exact k1 (by omega)
          | exact k2 (by omega)
/-- a number from lo to hi -/
theorem C_X3_number {lo hi : Int} (hR : RdX L h x b D N) (ha : inN N a) (hP : PsX h x t a u) (hlo : 0 ≤ lo ∧ lo ≤ 10000) (hhi : 0 ≤ hi ∧ hi ≤ 10000)
    (kS : ∀ v a' u' h', pNum (sK b D) (sV b D) lo hi a u = .inl (v, a', u') → a < a' → inN N a' → (0 ≤ v ∧ v ≤ 9999) → (∀ y, y ≠ x + 9 → h' y = h y) → PsX h' x t a' u' → Q (.inl [aI v]) L h')
    (kF : ∀ n tk h', pNum (sK b D) (sV b D) lo hi a u = .inr (n, tk) → (∀ y, y ≠ x + 9 → y ≠ x + 1 → h' y = h y) → (0 ≤ tk ∧ tk ≤ N) → FX1 h' x b D n tk → Q (.inr (x + 1)) L h') : am_C G mX3_number (d + 6) [aR (x + 9), aI lo, aI hi] L h Q := by
  have hK := hR.mk
  have ha0 := ha.1
  have ha4 := ha.2
  have hND : N ≤ 2000 := by have := hR.2.2.2.2.2.1; have := hR.2.2.1; omega
  have hp : pNum (sK b D) (sV b D) lo hi a u = rb (pM (sK b D) 2 a) fun a1 => .inl (sV b D a, a1, if sV b D a < lo ∨ hi < sV b D a then pTell 5 a u else u) := rfl
  obtain ⟨p1, p2, p3, p4, p5⟩ := id hP
  have hbad : ∀ n, (n = 1 ∨ n = 2) → pM (sK b D) 2 a = .inr (n, a) → Q (.inr (x + 1)) L (fltH h x n (sP b D a)) := fun n z1 z2 => kF n a _ (by rw [hp, z2, rb_r]) (fun y q1 q2 => fltH_o q2) ha0 ⟨fltH_6, fltH_7⟩
  refine x_start okX3_number rfl rfl rfl rfl ?_
  refine x_aload_0 dX3_number_0 ?_
  refine x_iconst dX3_number_1 ?_
  refine x_callV1 dX3_number_2 rfl okX3_take q772 q774 qs15 (by first | assumption | (exact MkL.k_parser (by assumption))) am_k3 rfl (C_X3_take (kk := 2) hR p2 ha (Or.inr ⟨rfl, rfl⟩) (fun z1 z2 => (x_k1 ?_)) (fun z1 => x_kx ⟨hK.k_fault, hbad 1 (Or.inl rfl) (pM_1 z1)⟩) (fun z1 z2 => x_kx ⟨hK.k_fault, hbad 2 (Or.inr rfl) (pM_2 z1 z2)⟩))
  rw [pM_ok z1 z2, rb_l] at hp
  have hR1 : RdX L (am_st h (x + 9) 3 (a + 1)) x b D N := hR.st9
  have hn := hR1.num ha z1
  have htk := hR1.tk ha0
  have hP1 : PsX (am_st h (x + 9) 3 (a + 1)) x t (a + 1) u := ⟨by rw [am_st_i (by decide)]; exact p1, am_st_s, by rw [am_st_i (by decide)]; exact p3, by rw [am_st_i (by decide)]; exact p4, by rw [am_st_i (by decide)]; exact p5⟩
  have hnx := hR.nx ha (by omega) (by omega) z2
  have hv : tkV b D (sP b D a) = sV b D a := rfl
  refine x_istore_3 dX3_number_5 rfl ?_
  refine x_aload_0 dX3_number_6 ?_
  refine x_getR dX3_number_7 fl296_3 rfl (by first | (exact MkL.k_parser (by assumption)) | (assumption)) (by first | (exact MkL.v_t (by assumption)) | (assumption)) ?_
  refine x_iload_3 dX3_number_10 ?_
  refine x_callV1 dX3_number_11 rfl okX2_number q776 q777 q778 (by first | assumption | (exact MkL.k_tokens (by assumption))) am_k2 rfl (C_X2_number hK (by omega) htk.2.1 (htk.2.2.1 (by omega)) hn.1 hn.2.1 (x_k1 ?_))
  rw [hn.2.2.1, hv]
  have hvr := hn.2.2.2
  rw [hv] at hvr
  refine x_istore4 dX3_number_14 rfl ?_
  refine x_iload4 dX3_number_16 ?_
  refine x_iload_1 dX3_number_18 ?_
  refine x_icmp_lt (tgt := 28) dX3_number_19 rfl (by omega) (by omega) (fun c19 => ?_) (fun c19 => ?_)
  · refine x_aload_0 dX3_number_28 ?_
    refine x_iconst dX3_number_29 ?_
    refine x_iload_3 dX3_number_30 ?_
    refine x_callV2 dX3_number_31 rfl okX3_tell q780 q782 qs16 (by first | assumption | (exact MkL.k_parser (by assumption))) am_k3 rfl (C_X3_tell hK hP1 (by decide) (by omega) (fun h2 e1 e2 => (x_k0 ?_)))
    refine x_iload4 dX3_number_34 ?_
    refine x_iret dX3_number_36 rfl ?_
    first
    | exact kS _ (a + 1) _ _ hp (by omega) hnx hvr (fun y q => am_st_o q) (by rw [if_neg (by omega)]; exact hP1)
    | exact kS _ (a + 1) _ _ hp (by omega) hnx hvr (fun y q => (e1 y q).trans (am_st_o q)) (by rw [if_pos (by omega)]; exact e2)
  · refine x_iload4 dX3_number_22 ?_
    refine x_iload_2 dX3_number_24 ?_
    refine x_icmp_le (tgt := 34) dX3_number_25 rfl (by omega) (by omega) (fun c25 => ?_) (fun c25 => ?_)
    · refine x_iload4 dX3_number_34 ?_
      refine x_iret dX3_number_36 rfl ?_
      first
      | exact kS _ (a + 1) _ _ hp (by omega) hnx hvr (fun y q => am_st_o q) (by rw [if_neg (by omega)]; exact hP1)
      | exact kS _ (a + 1) _ _ hp (by omega) hnx hvr (fun y q => (e1 y q).trans (am_st_o q)) (by rw [if_pos (by omega)]; exact e2)
    · refine x_aload_0 dX3_number_28 ?_
      refine x_iconst dX3_number_29 ?_
      refine x_iload_3 dX3_number_30 ?_
      refine x_callV2 dX3_number_31 rfl okX3_tell q780 q782 qs16 (by first | assumption | (exact MkL.k_parser (by assumption))) am_k3 rfl (C_X3_tell hK hP1 (by decide) (by omega) (fun h2 e1 e2 => (x_k0 ?_)))
      refine x_iload4 dX3_number_34 ?_
      refine x_iret dX3_number_36 rfl ?_
      first
      | exact kS _ (a + 1) _ _ hp (by omega) hnx hvr (fun y q => am_st_o q) (by rw [if_neg (by omega)]; exact hP1)
      | exact kS _ (a + 1) _ _ hp (by omega) hnx hvr (fun y q => (e1 y q).trans (am_st_o q)) (by rw [if_pos (by omega)]; exact e2)
/-- which man has the name at s -/
theorem C_X4_at {s id : Int} (hT : TxP L h t u) (hu : 0 ≤ tM (uT u) ∧ tM (uT u) ≤ 7) (hs : NmL L h s id) (k : Q (.inl [aI (fdM u id)]) L h) : am_C G mX4_at (d + 4) [aR t, aR s] L h Q := by
  have hls := hT.ls hu
  have hkl : kd L (t + 1) = 20 := hls.1
  have hkt := hT.kt
  have hf0 : fF L t 0 = t + 1 := by
    obtain ⟨r0, l, A, E, r1, -⟩ := hT
    exact r1.2.1.1
  refine x_start okX4_at rfl rfl rfl rfl ?_
  have hlp : ∀ (n : Nat) (i : Int), 0 ≤ i → i + n = tM (uT u) → fdN (uN u) n i id = fdM u id → am_X G mX4_at (d + 4) 2 [aR t, aR s, aI i] [] L h Q := by
    intro n
    induction n with
    | zero =>
      intro i h0 h1 h2
      refine x_iload_2 dX4_at_2 ?_
      refine x_aload_0 dX4_at_3 ?_
      refine x_getR dX4_at_4 fl350_4 rfl (by first | (exact TxL.k0 (by assumption)) | (assumption)) (by exact hf0) ?_
      refine x_callV0 dX4_at_7 rfl okJ5_size q965 q526 q527 (by first | assumption | (exact TxL.kl (by assumption))) am_k20 rfl (C_J5_size hls (x_k1 ?_))
      refine x_icmp_ge (tgt := 42) dX4_at_10 rfl (by omega) (by omega) (fun c10 => ?_) (fun c10 => ?_)
      · refine x_iconst dX4_at_42 ?_
        refine x_iret dX4_at_43 rfl ?_
        refine x_q1 ?_ k
        exact h2
      · exfalso; omega
    | succ n ih =>
      intro i h0 h1 h2
      obtain ⟨m1, m2, -⟩ := hT.man h0 (by omega)
      unfold fdN at h2
      refine x_iload_2 dX4_at_2 ?_
      refine x_aload_0 dX4_at_3 ?_
      refine x_getR dX4_at_4 fl350_4 rfl (by first | (exact TxL.k0 (by assumption)) | (assumption)) (by exact hf0) ?_
      refine x_callV0 dX4_at_7 rfl okJ5_size q965 q526 q527 (by first | assumption | (exact TxL.kl (by assumption))) am_k20 rfl (C_J5_size hls (x_k1 ?_))
      refine x_icmp_ge (tgt := 42) dX4_at_10 rfl (by omega) (by omega) (fun c10 => ?_) (fun c10 => ?_)
      · exfalso; omega
      · refine x_aload_0 dX4_at_13 ?_
        refine x_getR dX4_at_14 fl350_4 rfl (by first | (exact TxL.k0 (by assumption)) | (assumption)) (by exact hf0) ?_
        refine x_iload_2 dX4_at_17 ?_
        refine x_callV1 dX4_at_18 rfl okJ5_get q966 q530 q531 (by first | assumption | (exact TxL.kl (by assumption))) am_k20 rfl (C_J5_get hls ⟨h0, by omega⟩ (x_k1 ?_))
        rw [show fF L (fF L (t + 1) 1) i = manP L t i from rfl]
        refine x_cast dX4_at_21 q967 (by exact m1) am_k14 ?_
        refine x_getR dX4_at_24 fl981_14 rfl (by exact m1) (by rfl) ?_
        refine x_aload_1 dX4_at_27 ?_
        refine x_callV1 dX4_at_28 rfl okJ9_equals q968 q969 q970 (by exact m2.1) am_k21 rfl (C_J9_equals m2 hs (x_k1 ?_))
        refine x_if_eq (tgt := 36) dX4_at_31 rfl (by split <;> omega) (fun c31 => ?_) (fun c31 => ?_)
        · refine x_iinc2 dX4_at_36 rfl ?_
          refine x_goto (tgt := 2) dX4_at_39 rfl ?_
          refine ih (i + 1) (by omega) (by omega) ?_
          by_cases q : uN u i = id
          · rw [if_pos q] at c31
            exact absurd c31 (by decide)
          · rw [if_neg q] at h2
            exact h2
        · refine x_iload_2 dX4_at_34 ?_
          refine x_iret dX4_at_35 rfl ?_
          refine x_q1 ?_ k
          by_cases q : uN u i = id
          · rw [if_pos q] at h2
            exact h2
          · rw [if_neg q] at c31
            exact absurd rfl c31
  refine x_iconst dX4_at_0 ?_
  refine x_istore_2 dX4_at_1 rfl ?_
  exact hlp (tM (uT u)).toNat 0 (by omega) (by omega) rfl
theorem C_X4_has {s id : Int} (hT : TxP L h t u) (hu : 0 ≤ tM (uT u) ∧ tM (uT u) ≤ 7) (hs : NmL L h s id) (k : Q (.inl [aI (if 0 ≤ fdM u id then 1 else 0)]) L h) : am_C G mX4_has (d + 5) [aR t, aR s] L h Q := by
  have hkt := hT.kt
  have hrg := fdN_rg (uN u) (tM (uT u)).toNat 0 id
  have e : fdN (uN u) (tM (uT u)).toNat 0 id = fdM u id := rfl
  rw [e] at hrg
  refine x_start okX4_has rfl rfl rfl rfl ?_
  refine x_aload_0 dX4_has_0 ?_
  refine x_aload_1 dX4_has_1 ?_
  refine x_callV1 dX4_has_2 rfl okX4_at q961 q962 q963 (by first | assumption | (exact TxL.k0 (by assumption))) am_k4 rfl (C_X4_at hT hu hs (x_k1 ?_))
  refine x_if_lt (tgt := 12) dX4_has_5 rfl (by omega) (fun c5 => ?_) (fun c5 => ?_)
  · refine x_iconst dX4_has_12 ?_
    refine x_zret dX4_has_13 rfl (by omega) ?_
    refine x_q1 ?_ k
    split <;> omega
  · refine x_iconst dX4_has_8 ?_
    refine x_goto (tgt := 13) dX4_has_9 rfl ?_
    refine x_zret dX4_has_13 rfl (by omega) ?_
    refine x_q1 ?_ k
    split <;> omega
end XTOLD
