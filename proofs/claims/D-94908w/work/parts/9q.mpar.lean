/-! THE TWIN READS: the parser's small methods -/
set_option maxRecDepth 100000
section MPAR
variable {G : am_G} {L L' L2 : am_L} {h h' h2 : am_H} {o D N a c : Int} {b : Int → Int} {d : Nat} {Q : am_O → am_L → am_H → Prop}
/-- the tokens that the parser goes by: 0 .. N, the last of them the end or a bad one; no more than 401 of them -/
def RdM (L : am_L) (h : am_H) (o : Int) (b : Int → Int) (D N : Int) : Prop := MdL L o ∧ (0 ≤ D ∧ D ≤ 2000) ∧ (∀ i, 0 ≤ i → i ≤ N → i ≤ 400 → h (o + 3) i = sK b D i ∧ h (o + 4) i = sP b D i ∧ (sK b D i = 2 → h (o + 5) i = tkV b D (sP b D i)) ∧ (sK b D i = 1 → h (o + 6) i = tkI b D (sP b D i))) ∧ h (o + 3) 401 = 0 ∧ (0 ≤ N ∧ N ≤ D) ∧ (∀ i, 0 ≤ i → i < N → sK b D i ≠ 0 ∧ sK b D i ≠ 3) ∧ (sK b D N = 0 ∨ sK b D N = 3)
theorem RdM.ml (r : RdM L h o b D N) : MdL L o := r.1
theorem RdM.tk (r : RdM L h o b D N) (ha : inN N a) : h (o + 3) a = sK b D a ∧ h (o + 4) a = sP b D a ∧ (sK b D a = 2 → h (o + 5) a = tkV b D (sP b D a)) ∧ (sK b D a = 1 → h (o + 6) a = tkI b D (sP b D a)) := r.2.2.1 a ha.1.1 ha.1.2 ha.2
theorem RdM.fr (r : RdM L h o b D N) (hf : ∀ y, (o + 3 ≤ y ∧ y ≤ o + 6) → h' y = h y) : RdM L h' o b D N := by
  obtain ⟨r1, r2, r3, r4, r5⟩ := r
  refine ⟨r1, r2, fun i z0 z1 z2 => ?_, ?_, r5⟩
  · rw [hf (o + 3) (by omega), hf (o + 4) (by omega), hf (o + 5) (by omega), hf (o + 6) (by omega)]
    exact r3 i z0 z1 z2
  · rw [hf (o + 3) (by omega)]
    exact r4
theorem RdM.st0 {j v : Int} (r : RdM L h o b D N) : RdM L (am_st h o j v) o b D N := r.fr fun y z => am_st_o (by omega)
theorem RdM.upN (r : RdM L h o b D N) : upN b D N := fun i z0 z1 => (r.2.2.2.2.2.1 i z0 z1).1
theorem RdM.pl (r : RdM L h o b D N) (ha : 0 ≤ a ∧ a ≤ N) : 0 ≤ sP b D a ∧ sP b D a ≤ 2000 := by
  have h1 := sP_N r.2.1 r.upN a.toNat (by omega)
  rw [show ((a.toNat : Nat) : Int) = a by omega] at h1
  have := r.2.1
  omega
theorem RdM.nx (r : RdM L h o b D N) (ha : inN N a) (h1 : sK b D a ≠ 0) (h2 : sK b D a ≠ 3) (h4 : a < 400) : inN N (a + 1) := by
  have := r.2.2.2.2.2.2
  refine ⟨⟨by have := ha.1; omega, ?_⟩, by omega⟩
  rcases Int.lt_or_le a N with q | q
  · omega
  · have e : a = N := by have := ha.1; omega
    rw [e] at h1 h2
    omega
theorem C_X13_is {k : Int} (hR : RdM L h o b D N) (hf : h o 13 = 0) (ht : h o 11 = a) (ha : inN N a) (hk : rg32 k) (kk : Q (.inl [aI (if sK b D a = k then 1 else 0)]) L h) : am_C G mX13_is (d + 1) [aR o, aI k] L h Q := by
  have hL := hR.ml
  have ha0 := ha.1
  have ha4 := ha.2
  have h3 := (hR.tk ha).1
  have hrg : 0 ≤ sK b D a ∧ sK b D a ≤ 36 := tkK_rg b D _
  obtain ⟨hk1, hk2⟩ := hk
  refine x_start okX13_is rfl rfl rfl rfl ?_
  refine x_aload_0 dX13_is_0 ?_
  refine x_getI_ dX13_is_1 fl1587_13 (by first | (exact MdL.k0 (by assumption)) | (assumption)) (fun r1 => ?_)
  rw [hf] at r1 ⊢
  refine x_if_ne (tgt := 24) dX13_is_4 rfl (by omega) (fun c4 => ?_) (fun c4 => ?_)
  · refine x_iconst dX13_is_24 ?_
    refine x_zret dX13_is_25 rfl (by omega) ?_
    refine x_q1 ?_ kk
    first
      | (exfalso; omega)
      | (split <;> omega)
  · refine x_aload_0 dX13_is_7 ?_
    refine x_getR dX13_is_8 fl1579_13 rfl (by first | (exact MdL.k0 (by assumption)) | (assumption)) (by first | (exact MdL.v_tKind (by assumption)) | (assumption)) ?_
    refine x_aload_0 dX13_is_11 ?_
    refine x_getI_ dX13_is_12 fl1585_13 (by first | (exact MdL.k0 (by assumption)) | (assumption)) (fun r12 => ?_)
    rw [ht] at r12 ⊢
    refine x_iald_ dX13_is_15 (by first | (exact MdL.k_tKind (by assumption)) | (assumption)) (by first | (exact MdL.x_tKind (by assumption) (by omega) (by omega)) | (omega)) (fun r15 => ?_)
    rw [h3] at r15 ⊢
    refine x_iload_1 dX13_is_16 ?_
    refine x_icmp_ne (tgt := 24) dX13_is_17 rfl (by omega) (by omega) (fun c17 => ?_) (fun c17 => ?_)
    · refine x_iconst dX13_is_24 ?_
      refine x_zret dX13_is_25 rfl (by omega) ?_
      refine x_q1 ?_ kk
      first
        | (exfalso; omega)
        | (split <;> omega)
    · refine x_iconst dX13_is_20 ?_
      refine x_goto (tgt := 25) dX13_is_21 rfl ?_
      refine x_zret dX13_is_25 rfl (by omega) ?_
      refine x_q1 ?_ kk
      first
        | (exfalso; omega)
        | (split <;> omega)
theorem C_X13_is0 {k : Int} (hL : MdL L o) (hf : 0 < h o 13) (kk : Q (.inl [aI 0]) L h) : am_C G mX13_is (d + 1) [aR o, aI k] L h Q := by
  refine x_start okX13_is rfl rfl rfl rfl ?_
  refine x_aload_0 dX13_is_0 ?_
  refine x_getI_ dX13_is_1 fl1587_13 (by first | (exact MdL.k0 (by assumption)) | (assumption)) (fun r1 => ?_)
  refine x_if_ne (tgt := 24) dX13_is_4 rfl (by omega) (fun c4 => ?_) (fun c4 => ?_)
  · refine x_iconst dX13_is_24 ?_
    refine x_zret dX13_is_25 rfl (by omega) ?_
    exact kk
  · exfalso; omega
/-- a fault k at place p -/
def failH (h : am_H) (o k p : Int) : am_H := am_st (am_st h o 13 k) o 14 p
theorem C_X13_fail {k : Int} (hR : RdM L h o b D N) (hf : h o 13 = 0) (ht : h o 11 = a) (ha : inN N a) (hk : 0 ≤ k ∧ k ≤ 9) (kk : Q (.inl []) L (failH h o k (sP b D a))) : am_C G mX13_fail (d + 1) [aR o, aI k] L h Q := by
  have hL := hR.ml
  have ha0 := ha.1
  have ha4 := ha.2
  have h4 := (hR.tk ha).2.1
  have hpl := hR.pl ha.1
  have ht' : am_st h o 13 k o 11 = a := by rw [am_st_i (by decide)]; exact ht
  have h4' : am_st h o 13 k (o + 4) a = sP b D a := by rw [am_st_o (by omega)]; exact h4
  refine x_start okX13_fail rfl rfl rfl rfl ?_
  refine x_aload_0 dX13_fail_0 ?_
  refine x_getI_ dX13_fail_1 fl1587_13 (by first | (exact MdL.k0 (by assumption)) | (assumption)) (fun r1 => ?_)
  rw [hf] at r1 ⊢
  refine x_if_le (tgt := 8) dX13_fail_4 rfl (by omega) (fun c4 => ?_) (fun c4 => ?_)
  · refine x_aload_0 dX13_fail_8 ?_
    refine x_iload_1 dX13_fail_9 ?_
    refine x_putI_ dX13_fail_10 fl1587_13 (by first | (exact MdL.k0 (by assumption)) | (assumption)) (by omega) ?_
    refine x_aload_0 dX13_fail_13 ?_
    refine x_aload_0 dX13_fail_14 ?_
    refine x_getR dX13_fail_15 fl1580_13 rfl (by first | (exact MdL.k0 (by assumption)) | (assumption)) (by first | (exact MdL.v_tPlace (by assumption)) | (assumption)) ?_
    refine x_aload_0 dX13_fail_18 ?_
    refine x_getI_ dX13_fail_19 fl1585_13 (by first | (exact MdL.k0 (by assumption)) | (assumption)) (fun r19 => ?_)
    rw [ht'] at r19 ⊢
    refine x_iald_ dX13_fail_22 (by first | (exact MdL.k_tPlace (by assumption)) | (assumption)) (by first | (exact MdL.x_tPlace (by assumption) (by omega) (by omega)) | (omega)) (fun r22 => ?_)
    rw [h4'] at r22 ⊢
    refine x_putI_ dX13_fail_23 fl1588_13 (by first | (exact MdL.k0 (by assumption)) | (assumption)) (by omega) ?_
    refine x_ret dX13_fail_26 rfl ?_
    exact kk
  · exfalso; omega
theorem C_X13_fail0 {k : Int} (hL : MdL L o) (hf : 0 < h o 13) (kk : Q (.inl []) L h) : am_C G mX13_fail (d + 1) [aR o, aI k] L h Q := by
  refine x_start okX13_fail rfl rfl rfl rfl ?_
  refine x_aload_0 dX13_fail_0 ?_
  refine x_getI_ dX13_fail_1 fl1587_13 (by first | (exact MdL.k0 (by assumption)) | (assumption)) (fun r1 => ?_)
  refine x_if_le (tgt := 8) dX13_fail_4 rfl (by omega) (fun c4 => ?_) (fun c4 => ?_)
  · exfalso; omega
  · refine x_ret dX13_fail_7 rfl ?_
    exact kk
theorem C_X13_goesOn (hR : RdM L h o b D N) (hf : h o 13 = 0) (ht : h o 11 = a) (ha : inN N a) (k1 : a < 400 → Q (.inl []) L (am_st h o 11 (a + 1))) (k2 : 400 ≤ a → Q (.inl []) L (failH h o 2 (sP b D a))) : am_C G mX13_goesOn (d + 2) [aR o] L h Q := by
  have hL := hR.ml
  have ha0 := ha.1
  have ha4 := ha.2
  refine x_start okX13_goesOn rfl rfl rfl rfl ?_
  refine x_aload_0 dX13_goesOn_0 ?_
  refine x_getI_ dX13_goesOn_1 fl1585_13 (by first | (exact MdL.k0 (by assumption)) | (assumption)) (fun r1 => ?_)
  rw [ht] at r1 ⊢
  refine x_sipush dX13_goesOn_4 rfl ?_
  refine x_icmp_ne (tgt := 18) dX13_goesOn_7 rfl (by omega) (by omega) (fun c7 => ?_) (fun c7 => ?_)
  · refine x_aload_0 dX13_goesOn_18 ?_
    refine x_dup dX13_goesOn_19 rfl ?_
    refine x_getI_ dX13_goesOn_20 fl1585_13 (by first | (exact MdL.k0 (by assumption)) | (assumption)) (fun r20 => ?_)
    rw [ht] at r20 ⊢
    refine x_iconst dX13_goesOn_23 ?_
    refine x_iadd dX13_goesOn_24 ?_
    refine x_putI_ dX13_goesOn_25 fl1585_13 (by first | (exact MdL.k0 (by assumption)) | (assumption)) (by omega) ?_
    refine x_ret dX13_goesOn_28 rfl ?_
    first
    | exact k1 (by omega)
    | exact k2 (by omega)
  · refine x_aload_0 dX13_goesOn_10 ?_
    refine x_iconst dX13_goesOn_11 ?_
    refine x_callV1 dX13_goesOn_12 rfl okX13_fail q1851 q1853 qs63 (by first | assumption | (exact MdL.k0 (by assumption))) am_k13 rfl (C_X13_fail hR hf ht ha (by decide) (x_k0 ?_))
    refine x_goto (tgt := 28) dX13_goesOn_15 rfl ?_
    refine x_ret dX13_goesOn_28 rfl ?_
    first
    | exact k1 (by omega)
    | exact k2 (by omega)
theorem C_X13_goesOn0 (hL : MdL L o) (hf : 0 < h o 13) (ht : 0 ≤ h o 11 ∧ h o 11 ≤ 400) (kk : ∀ t', (0 ≤ t' ∧ t' ≤ 400) → Q (.inl []) L (am_st h o 11 t')) : am_C G mX13_goesOn (d + 2) [aR o] L h Q := by
  have e : ∀ t', h o 11 = t' → am_st h o 11 t' = h := fun t' z => by
    funext y j
    rw [am_st_at]
    split
    · rename_i q
      rw [q.1, q.2, z]
    · rfl
  refine x_start okX13_goesOn rfl rfl rfl rfl ?_
  refine x_aload_0 dX13_goesOn_0 ?_
  refine x_getI_ dX13_goesOn_1 fl1585_13 (by first | (exact MdL.k0 (by assumption)) | (assumption)) (fun r1 => ?_)
  refine x_sipush dX13_goesOn_4 rfl ?_
  refine x_icmp_ne (tgt := 18) dX13_goesOn_7 rfl (by omega) (by omega) (fun c7 => ?_) (fun c7 => ?_)
  · refine x_aload_0 dX13_goesOn_18 ?_
    refine x_dup dX13_goesOn_19 rfl ?_
    refine x_getI_ dX13_goesOn_20 fl1585_13 (by first | (exact MdL.k0 (by assumption)) | (assumption)) (fun r20 => ?_)
    refine x_iconst dX13_goesOn_23 ?_
    refine x_iadd dX13_goesOn_24 ?_
    refine x_putI_ dX13_goesOn_25 fl1585_13 (by first | (exact MdL.k0 (by assumption)) | (assumption)) (by omega) ?_
    refine x_ret dX13_goesOn_28 rfl ?_
    first
    | exact kk _ (by omega)
    | (rw [← e 400 (by omega)]; exact kk 400 (by omega))
  · refine x_aload_0 dX13_goesOn_10 ?_
    refine x_iconst dX13_goesOn_11 ?_
    refine x_callV1 dX13_goesOn_12 rfl okX13_fail q1851 q1853 qs63 (by first | assumption | (exact MdL.k0 (by assumption))) am_k13 rfl (C_X13_fail0 hL hf (x_k0 ?_))
    refine x_goto (tgt := 28) dX13_goesOn_15 rfl ?_
    refine x_ret dX13_goesOn_28 rfl ?_
    first
    | exact kk _ (by omega)
    | (rw [← e 400 (by omega)]; exact kk 400 (by omega))
theorem C_X13_must {k : Int} (hR : RdM L h o b D N) (hf : h o 13 = 0) (ht : h o 11 = a) (ha : inN N a) (hk : rg32 k) (k1 : sK b D a = k → a < 400 → Q (.inl []) L (am_st h o 11 (a + 1))) (k2 : sK b D a ≠ k → Q (.inl []) L (failH h o 1 (sP b D a))) (k3 : sK b D a = k → 400 ≤ a → Q (.inl []) L (failH h o 2 (sP b D a))) : am_C G mX13_must (d + 3) [aR o, aI k] L h Q := by
  have hL := hR.ml
  refine x_start okX13_must rfl rfl rfl rfl ?_
  by_cases q : sK b D a = k
  · skip
    refine x_aload_0 dX13_must_0 ?_
    refine x_iload_1 dX13_must_1 ?_
    refine x_callV1 dX13_must_2 rfl okX13_is q1839 q1841 qs60 (by first | assumption | (exact MdL.k0 (by assumption))) am_k13 rfl (C_X13_is hR hf ht ha hk (x_k1 ?_))
    rw [if_pos q]
    refine x_if_eq (tgt := 15) dX13_must_5 rfl (by omega) (fun c5 => ?_) (fun c5 => ?_)
    · exact absurd c5 (by decide)
    · refine x_aload_0 dX13_must_8 ?_
      refine x_callV0 dX13_must_9 rfl okX13_goesOn q1847 q1849 qs62 (by first | assumption | (exact MdL.k0 (by assumption))) am_k13 rfl (C_X13_goesOn hR hf ht ha (fun z => (x_k0 ?_)) (fun z => (x_k0 ?_)))
      · refine x_goto (tgt := 20) dX13_must_12 rfl ?_
        refine x_ret dX13_must_20 rfl ?_
        first
        | exact k1 q z
        | exact k3 q z
      · refine x_goto (tgt := 20) dX13_must_12 rfl ?_
        refine x_ret dX13_must_20 rfl ?_
        first
        | exact k1 q z
        | exact k3 q z
  · skip
    refine x_aload_0 dX13_must_0 ?_
    refine x_iload_1 dX13_must_1 ?_
    refine x_callV1 dX13_must_2 rfl okX13_is q1839 q1841 qs60 (by first | assumption | (exact MdL.k0 (by assumption))) am_k13 rfl (C_X13_is hR hf ht ha hk (x_k1 ?_))
    rw [if_neg q]
    refine x_if_eq (tgt := 15) dX13_must_5 rfl (by omega) (fun c5 => ?_) (fun c5 => ?_)
    · refine x_aload_0 dX13_must_15 ?_
      refine x_iconst dX13_must_16 ?_
      refine x_callV1 dX13_must_17 rfl okX13_fail q1851 q1853 qs63 (by first | assumption | (exact MdL.k0 (by assumption))) am_k13 rfl (C_X13_fail hR hf ht ha (by decide) (x_k0 ?_))
      refine x_ret dX13_must_20 rfl ?_
      exact k2 q
    · exact absurd rfl c5
theorem C_X13_must0 {k : Int} (hL : MdL L o) (hf : 0 < h o 13) (kk : Q (.inl []) L h) : am_C G mX13_must (d + 3) [aR o, aI k] L h Q := by
  refine x_start okX13_must rfl rfl rfl rfl ?_
  refine x_aload_0 dX13_must_0 ?_
  refine x_iload_1 dX13_must_1 ?_
  refine x_callV1 dX13_must_2 rfl okX13_is q1839 q1841 qs60 (by first | assumption | (exact MdL.k0 (by assumption))) am_k13 rfl (C_X13_is0 hL hf (x_k1 ?_))
  refine x_if_eq (tgt := 15) dX13_must_5 rfl (by omega) (fun c5 => ?_) (fun c5 => ?_)
  · refine x_aload_0 dX13_must_15 ?_
    refine x_iconst dX13_must_16 ?_
    refine x_callV1 dX13_must_17 rfl okX13_fail q1851 q1853 qs63 (by first | assumption | (exact MdL.k0 (by assumption))) am_k13 rfl (C_X13_fail0 hL hf (x_k0 ?_))
    refine x_ret dX13_must_20 rfl ?_
    exact kk
  · exact absurd rfl c5
/-- the least of the faults that can wait: (w at wp) or (k at p) -/
def wrsH (h : am_H) (o w wp k p : Int) : am_H := if w ≠ 0 ∧ (wp < p ∨ (p = wp ∧ w ≤ k)) then h else am_st (am_st h o 15 k) o 16 p
theorem C_X13_wrong {k w wp : Int} (hR : RdM L h o b D N) (hf : h o 13 = 0) (ha : inN N a) (hk : 0 ≤ k ∧ k ≤ 9) (hw : h o 15 = w) (hwp : h o 16 = wp) (kk : Q (.inl []) L (wrsH h o w wp k (sP b D a))) : am_C G mX13_wrong (d + 1) [aR o, aI k, aI a] L h Q := by
  have hL := hR.ml
  have ha0 := ha.1
  have ha4 := ha.2
  have h4 := (hR.tk ha).2.1
  have hpl := hR.pl ha.1
  unfold wrsH at kk
  refine x_start okX13_wrong rfl rfl rfl rfl ?_
  refine x_aload_0 dX13_wrong_0 ?_
  refine x_getR dX13_wrong_1 fl1580_13 rfl (by first | (exact MdL.k0 (by assumption)) | (assumption)) (by first | (exact MdL.v_tPlace (by assumption)) | (assumption)) ?_
  refine x_iload_2 dX13_wrong_4 ?_
  refine x_iald_ dX13_wrong_5 (by first | (exact MdL.k_tPlace (by assumption)) | (assumption)) (by first | (exact MdL.x_tPlace (by assumption) (by omega) (by omega)) | (omega)) (fun r5 => ?_)
  rw [h4] at r5 ⊢
  refine x_istore_3 dX13_wrong_6 rfl ?_
  refine x_aload_0 dX13_wrong_7 ?_
  refine x_getI_ dX13_wrong_8 fl1587_13 (by first | (exact MdL.k0 (by assumption)) | (assumption)) (fun r8 => ?_)
  rw [hf] at r8 ⊢
  refine x_if_gt (tgt := 45) dX13_wrong_11 rfl (by omega) (fun c11 => ?_) (fun c11 => ?_)
  · refine x_ret dX13_wrong_45 rfl ?_
    first
    | (exfalso; omega)
    | (rw [if_pos (by omega)] at kk; exact kk)
    | (rw [if_neg (by omega)] at kk; exact kk)
  · refine x_aload_0 dX13_wrong_14 ?_
    refine x_getI_ dX13_wrong_15 fl1589_13 (by first | (exact MdL.k0 (by assumption)) | (assumption)) (fun r15 => ?_)
    rw [hw] at r15 ⊢
    refine x_if_eq (tgt := 46) dX13_wrong_18 rfl (by omega) (fun c18 => ?_) (fun c18 => ?_)
    · refine x_aload_0 dX13_wrong_46 ?_
      refine x_iload_1 dX13_wrong_47 ?_
      refine x_putI_ dX13_wrong_48 fl1589_13 (by first | (exact MdL.k0 (by assumption)) | (assumption)) (by omega) ?_
      refine x_aload_0 dX13_wrong_51 ?_
      refine x_iload_3 dX13_wrong_52 ?_
      refine x_putI_ dX13_wrong_53 fl1590_13 (by first | (exact MdL.k0 (by assumption)) | (assumption)) (by omega) ?_
      refine x_ret dX13_wrong_56 rfl ?_
      first
      | (exfalso; omega)
      | (rw [if_pos (by omega)] at kk; exact kk)
      | (rw [if_neg (by omega)] at kk; exact kk)
    · refine x_iload_3 dX13_wrong_21 ?_
      refine x_aload_0 dX13_wrong_22 ?_
      refine x_getI_ dX13_wrong_23 fl1590_13 (by first | (exact MdL.k0 (by assumption)) | (assumption)) (fun r23 => ?_)
      rw [hwp] at r23 ⊢
      refine x_icmp_gt (tgt := 45) dX13_wrong_26 rfl (by omega) (by omega) (fun c26 => ?_) (fun c26 => ?_)
      · refine x_ret dX13_wrong_45 rfl ?_
        first
        | (exfalso; omega)
        | (rw [if_pos (by omega)] at kk; exact kk)
        | (rw [if_neg (by omega)] at kk; exact kk)
      · refine x_iload_3 dX13_wrong_29 ?_
        refine x_aload_0 dX13_wrong_30 ?_
        refine x_getI_ dX13_wrong_31 fl1590_13 (by first | (exact MdL.k0 (by assumption)) | (assumption)) (fun r31 => ?_)
        rw [hwp] at r31 ⊢
        refine x_icmp_ne (tgt := 46) dX13_wrong_34 rfl (by omega) (by omega) (fun c34 => ?_) (fun c34 => ?_)
        · refine x_aload_0 dX13_wrong_46 ?_
          refine x_iload_1 dX13_wrong_47 ?_
          refine x_putI_ dX13_wrong_48 fl1589_13 (by first | (exact MdL.k0 (by assumption)) | (assumption)) (by omega) ?_
          refine x_aload_0 dX13_wrong_51 ?_
          refine x_iload_3 dX13_wrong_52 ?_
          refine x_putI_ dX13_wrong_53 fl1590_13 (by first | (exact MdL.k0 (by assumption)) | (assumption)) (by omega) ?_
          refine x_ret dX13_wrong_56 rfl ?_
          first
          | (exfalso; omega)
          | (rw [if_pos (by omega)] at kk; exact kk)
          | (rw [if_neg (by omega)] at kk; exact kk)
        · refine x_iload_1 dX13_wrong_37 ?_
          refine x_aload_0 dX13_wrong_38 ?_
          refine x_getI_ dX13_wrong_39 fl1589_13 (by first | (exact MdL.k0 (by assumption)) | (assumption)) (fun r39 => ?_)
          rw [hw] at r39 ⊢
          refine x_icmp_lt (tgt := 46) dX13_wrong_42 rfl (by omega) (by omega) (fun c42 => ?_) (fun c42 => ?_)
          · refine x_aload_0 dX13_wrong_46 ?_
            refine x_iload_1 dX13_wrong_47 ?_
            refine x_putI_ dX13_wrong_48 fl1589_13 (by first | (exact MdL.k0 (by assumption)) | (assumption)) (by omega) ?_
            refine x_aload_0 dX13_wrong_51 ?_
            refine x_iload_3 dX13_wrong_52 ?_
            refine x_putI_ dX13_wrong_53 fl1590_13 (by first | (exact MdL.k0 (by assumption)) | (assumption)) (by omega) ?_
            refine x_ret dX13_wrong_56 rfl ?_
            first
            | (exfalso; omega)
            | (rw [if_pos (by omega)] at kk; exact kk)
            | (rw [if_neg (by omega)] at kk; exact kk)
          · refine x_ret dX13_wrong_45 rfl ?_
            first
            | (exfalso; omega)
            | (rw [if_pos (by omega)] at kk; exact kk)
            | (rw [if_neg (by omega)] at kk; exact kk)
theorem C_X13_wrong0 {k : Int} (hL : MdL L o) (hf : 0 < h o 13) (ha : 0 ≤ a ∧ a ≤ 402) (kk : Q (.inl []) L h) : am_C G mX13_wrong (d + 1) [aR o, aI k, aI a] L h Q := by
  refine x_start okX13_wrong rfl rfl rfl rfl ?_
  refine x_aload_0 dX13_wrong_0 ?_
  refine x_getR dX13_wrong_1 fl1580_13 rfl (by first | (exact MdL.k0 (by assumption)) | (assumption)) (by first | (exact MdL.v_tPlace (by assumption)) | (assumption)) ?_
  refine x_iload_2 dX13_wrong_4 ?_
  refine x_iald_ dX13_wrong_5 (by first | (exact MdL.k_tPlace (by assumption)) | (assumption)) (by first | (exact MdL.x_tPlace (by assumption) (by omega) (by omega)) | (omega)) (fun r5 => ?_)
  refine x_istore_3 dX13_wrong_6 rfl ?_
  refine x_aload_0 dX13_wrong_7 ?_
  refine x_getI_ dX13_wrong_8 fl1587_13 (by first | (exact MdL.k0 (by assumption)) | (assumption)) (fun r8 => ?_)
  refine x_if_gt (tgt := 45) dX13_wrong_11 rfl (by omega) (fun c11 => ?_) (fun c11 => ?_)
  · refine x_ret dX13_wrong_45 rfl ?_
    exact kk
  · exfalso; omega
/-- a code emitted -/
def emH (h : am_H) (o c k v : Int) : am_H := am_st (am_st (am_st h (o + 32) c k) (o + 33) c v) o 47 (c + 1)
theorem C_X13_emit {k v : Int} (hL : MdL L o) (hc : h o 47 = c) (hcc : 0 ≤ c ∧ c < 840) (hk : rg32 k) (hv : rg32 v) (kk : Q (.inl []) L (emH h o c k v)) : am_C G mX13_emit (d + 1) [aR o, aI k, aI v] L h Q := by
  refine x_start okX13_emit rfl rfl rfl rfl ?_
  refine x_aload_0 dX13_emit_0 ?_
  refine x_getR dX13_emit_1 fl1622_13 rfl (by first | (exact MdL.k0 (by assumption)) | (assumption)) (by first | (exact MdL.v_code (by assumption)) | (assumption)) ?_
  refine x_aload_0 dX13_emit_4 ?_
  refine x_getI_ dX13_emit_5 fl1621_13 (by first | (exact MdL.k0 (by assumption)) | (assumption)) (fun r5 => ?_)
  simp (disch := omega) only [am_st_o, hc] at r5 ⊢
  refine x_iload_1 dX13_emit_8 ?_
  refine x_iast_ dX13_emit_9 (by first | (exact MdL.k_code (by assumption)) | (assumption)) (by first | (exact MdL.x_code (by assumption) (by omega) (by omega)) | (omega)) (by exact hk) ?_
  refine x_aload_0 dX13_emit_10 ?_
  refine x_getR dX13_emit_11 fl1623_13 rfl (by first | (exact MdL.k0 (by assumption)) | (assumption)) (by first | (exact MdL.v_codeInt (by assumption)) | (assumption)) ?_
  refine x_aload_0 dX13_emit_14 ?_
  refine x_getI_ dX13_emit_15 fl1621_13 (by first | (exact MdL.k0 (by assumption)) | (assumption)) (fun r15 => ?_)
  simp (disch := omega) only [am_st_o, hc] at r15 ⊢
  refine x_iload_2 dX13_emit_18 ?_
  refine x_iast_ dX13_emit_19 (by first | (exact MdL.k_codeInt (by assumption)) | (assumption)) (by first | (exact MdL.x_codeInt (by assumption) (by omega) (by omega)) | (omega)) (by exact hv) ?_
  refine x_aload_0 dX13_emit_20 ?_
  refine x_dup dX13_emit_21 rfl ?_
  refine x_getI_ dX13_emit_22 fl1621_13 (by first | (exact MdL.k0 (by assumption)) | (assumption)) (fun r22 => ?_)
  simp (disch := omega) only [am_st_o, hc] at r22 ⊢
  refine x_iconst dX13_emit_25 ?_
  refine x_iadd dX13_emit_26 ?_
  refine x_putI_ dX13_emit_27 fl1621_13 (by first | (exact MdL.k0 (by assumption)) | (assumption)) (by omega) ?_
  refine x_ret dX13_emit_30 rfl ?_
  exact kk
end MPAR
