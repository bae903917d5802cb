/-! STRINGS: the keywords' and names -/
set_option maxRecDepth 100000
/-- the keywords' letters -/
def kwW : List (List Int) := [[116, 111, 119, 110], [109, 97, 110], [103, 111, 101, 115], [108, 111, 110, 103], [101, 114, 114, 97, 110, 100], [112, 105, 108, 108, 97, 114], [100, 121, 101], [115, 101, 101, 100], [105, 102], [116, 104, 101, 110], [101, 108, 115, 101], [120], [121], [109, 105, 110, 117, 116, 101], [108, 101, 102, 116], [108, 111, 116], [114, 97, 110, 107]]
def kwC (w i : Int) : Int := (kwW.getD w.toNat []).getD i.toNat 0
def kwM (w : Int) : Int := ((kwW.getD w.toNat []).length : Nat)
theorem kw_ok {w : Int} (h : 0 ≤ w ∧ w < 17) : kwN w = idN (kwC w) (kwM w).toNat ∧ (1 ≤ kwM w ∧ kwM w ≤ 6) ∧ ∀ i : Nat, i < (kwM w).toNat → 97 ≤ kwC w i ∧ kwC w i ≤ 122 := by
  obtain ⟨m, rfl⟩ : ∃ m : Nat, w = m := ⟨w.toNat, by omega⟩
  have : m = 0 ∨ m = 1 ∨ m = 2 ∨ m = 3 ∨ m = 4 ∨ m = 5 ∨ m = 6 ∨ m = 7 ∨ m = 8 ∨ m = 9 ∨ m = 10 ∨ m = 11 ∨ m = 12 ∨ m = 13 ∨ m = 14 ∨ m = 15 ∨ m = 16 := by omega
  rcases this with rfl | rfl | rfl | rfl | rfl | rfl | rfl | rfl | rfl | rfl | rfl | rfl | rfl | rfl | rfl | rfl | rfl <;> decide
/-- what stood there before the law: the keywords' Strings -/
def KwL (L : am_L) : Prop := ∀ w, 0 ≤ w → w < 17 → kd L (11 + w) = 21 ∧ fF L (11 + w) 1 = 0 ∧ fF L (11 + w) 0 = 31 + w ∧ kd L (31 + w) = 118 ∧ ln L (31 + w) = kwM w ∧ ∀ i, 0 ≤ i → i < kwM w → fF L (31 + w) i = kwC w i
/-- the String at s is the name id -/
def NmL (L : am_L) (h : am_H) (s id : Int) : Prop := kd L s = 21 ∧ 200 ≤ s ∧ fF L s 1 = 0 ∧ kd L (fF L s 0) = 101 ∧ (1 ≤ ln L (fF L s 0) ∧ ln L (fF L s 0) ≤ 8) ∧ (∀ i : Nat, i < (ln L (fF L s 0)).toNat → 97 ≤ h (fF L s 0) i ∧ h (fF L s 0) i ≤ 122) ∧ id = idN (h (fF L s 0)) (ln L (fF L s 0)).toNat
theorem NmL.up {L L' : am_L} {h h' : am_H} {s id : Int} (r : NmL L h s id) (wf : am_Wf L h) (hl : LB L L' (nx L)) (hh : ∀ a, a < nx L → h' a = h a) : NmL L' h' s id := by
  obtain ⟨r1, r2, r3, r4, r5, r6, r7⟩ := r
  have e1 := hl s (wf.2.1 s (by omega)).2.1
  have e2 := hl (fF L s 0) (wf.2.1 (fF L s 0) (by omega)).2.1
  have e3 := hh (fF L s 0) (wf.2.1 (fF L s 0) (by omega)).2.1
  unfold NmL
  rw [e1.1, e1.2.2, e1.2.2, e2.1, e2.2.1, e3]
  exact ⟨r1, r2, r3, r4, r5, r6, r7⟩
theorem NmL.pf {L : am_L} {h : am_H} {s id b j v : Int} (r : NmL L h s id) (hb : kd L b ≠ 21) : NmL (am_pf L b j v) h s id := by
  obtain ⟨r1, r2, r3, r4, r5, r6, r7⟩ := r
  have e : ∀ i, fF (am_pf L b j v) s i = fF L s i := fun i => if_neg (fun q => hb (by rw [← q.1]; exact r1))
  unfold NmL
  rw [e, e, kd_pf, kd_pf, ln_pf]
  exact ⟨r1, r2, r3, r4, r5, r6, r7⟩
theorem bShr_0 {z : Int} (h : rg32 z) : bShr z 0 = z := by
  unfold bShr
  rw [show Int32.ofInt 0 &&& 31 = 0 by decide, Int32.shiftRight_zero]
  exact am_ti h
/-- 255 & a byte -/
theorem bAnd_255 {c : Int} (h : -128 ≤ c ∧ c ≤ 127) : bAnd c 255 = if c < 0 then c + 256 else c := by
  have key : ∀ k : Nat, k < 256 → bAnd ((k : Int) - 128) 255 = if (k : Int) - 128 < 0 then (k : Int) - 128 + 256 else (k : Int) - 128 := by decide +kernel
  have := key (c + 128).toNat (by omega)
  rw [show ((c + 128).toNat : Int) - 128 = c by omega] at this
  exact this
section STRS
variable {G : am_G} {L : am_L} {h : am_H} {s v n : Int} {d : Nat} {Q : am_O → am_L → am_H → Prop}
theorem C_J9_coder (hk : kd L s = 21) (hc : fF L s 1 = 0) (k : Q (.inl [aI 0]) L h) : am_C G mJ9_coder (d + 1) [aR s] L h Q := by
  refine x_start okJ9_coder rfl rfl rfl rfl ?_
  refine x_gets dJ9_coder_0 q692 am_z1 ?_
  refine x_if_eq (tgt := 13) dJ9_coder_3 rfl (by omega) (fun c3 => ?_) (fun c3 => ?_)
  · exact absurd c3 (by decide)
  · refine x_aload_0 dJ9_coder_6 ?_
    refine x_getKB dJ9_coder_7 fl947_21 (by first | assumption | (simp only [kd_pf, kd_al, true_and, and_true]; (repeat (first | rw [if_neg (by omega)] | rw [if_pos (by omega)] | rw [if_pos trivial])); first | done | assumption | rfl)) (by assumption) (fun r7 => ?_)
    refine x_goto (tgt := 14) dJ9_coder_10 rfl ?_
    refine x_bret dJ9_coder_14 rfl (by omega) ?_
    exact k
theorem C_J9_isLatin1 (hk : kd L s = 21) (hc : fF L s 1 = 0) (k : Q (.inl [aI 1]) L h) : am_C G mJ9_isLatin1 (d + 1) [aR s] L h Q := by
  refine x_start okJ9_isLatin1 rfl rfl rfl rfl ?_
  refine x_gets dJ9_isLatin1_0 q692 am_z1 ?_
  refine x_if_eq (tgt := 17) dJ9_isLatin1_3 rfl (by omega) (fun c3 => ?_) (fun c3 => ?_)
  · first
    | exact absurd c3 (by decide)
    | exact absurd rfl c10
  · refine x_aload_0 dJ9_isLatin1_6 ?_
    refine x_getKB dJ9_isLatin1_7 fl947_21 (by first | assumption | (simp only [kd_pf, kd_al, true_and, and_true]; (repeat (first | rw [if_neg (by omega)] | rw [if_pos (by omega)] | rw [if_pos trivial])); first | done | assumption | rfl)) (by assumption) (fun r7 => ?_)
    refine x_if_ne (tgt := 17) dJ9_isLatin1_10 rfl (by omega) (fun c10 => ?_) (fun c10 => ?_)
    · first
      | exact absurd c3 (by decide)
      | exact absurd rfl c10
    · refine x_iconst dJ9_isLatin1_13 ?_
      refine x_goto (tgt := 18) dJ9_isLatin1_14 rfl ?_
      refine x_zret dJ9_isLatin1_18 rfl (by omega) ?_
      exact k
theorem C_J9_length (hk : kd L s = 21) (hc : fF L s 1 = 0) (hv : fF L s 0 = v) (hkv : kd L v = 118) (hn : ln L v = n) (hn2 : 0 ≤ n ∧ n ≤ 8) (k : Q (.inl [aI n]) L h) : am_C G mJ9_length (d + 2) [aR s] L h Q := by
  refine x_start okJ9_length rfl rfl rfl rfl ?_
  refine x_aload_0 dJ9_length_0 ?_
  refine x_getR dJ9_length_1 fl946_21 rfl (by first | assumption | (simp only [kd_pf, kd_al, true_and, and_true]; (repeat (first | rw [if_neg (by omega)] | rw [if_pos (by omega)] | rw [if_pos trivial])); first | done | assumption | rfl)) (by assumption) ?_
  refine x_alen dJ9_length_4 (by first | assumption | (simp only [kd_pf, kd_al, true_and, and_true]; (repeat (first | rw [if_neg (by omega)] | rw [if_pos (by omega)] | rw [if_pos trivial])); first | done | assumption | rfl)) (by decide) (by decide) ?_
  refine x_aload_0 dJ9_length_5 ?_
  refine x_callV0 dJ9_length_6 rfl okJ9_coder q688 q689 q690 (by first | assumption | (simp only [kd_pf, kd_al, true_and, and_true]; (repeat (first | rw [if_neg (by omega)] | rw [if_pos (by omega)] | rw [if_pos trivial])); first | done | assumption | rfl)) am_k21 rfl (C_J9_coder hk hc (x_k1 ?_))
  refine x_ishr dJ9_length_9 ?_
  rw [hn, bShr_0 ⟨by omega, by omega⟩]
  refine x_iret dJ9_length_10 rfl ?_
  exact k
theorem C_J7_chk {i n w : Int} (hi : 0 ≤ i ∧ i < n) (hn : n ≤ 2147483647) (k : Q (.inl [aI i]) L h) : am_C G mJ7_checkIndex (d + 1) [aI i, aI n, aR w] L h Q := by
  refine x_start okJ7_checkIndex rfl rfl rfl rfl ?_
  refine x_iload_0 dJ7_checkIndex_0 ?_
  refine x_if_lt (tgt := 9) dJ7_checkIndex_1 rfl (by omega) (fun c1 => ?_) (fun c1 => ?_)
  · exfalso; omega
  · refine x_iload_0 dJ7_checkIndex_4 ?_
    refine x_iload_1 dJ7_checkIndex_5 ?_
    refine x_icmp_lt (tgt := 16) dJ7_checkIndex_6 rfl (by omega) (by omega) (fun c6 => ?_) (fun c6 => ?_)
    · refine x_iload_0 dJ7_checkIndex_16 ?_
      refine x_iret dJ7_checkIndex_17 rfl ?_
      exact k
    · exfalso; omega
theorem C_J9_checkIndex {i n : Int} (hi : 0 ≤ i ∧ i < n) (hn : n ≤ 2147483647) (k : Q (.inl []) L h) : am_C G mJ9_checkIndex (d + 2) [aI i, aI n] L h Q := by
  refine x_start okJ9_checkIndex rfl rfl rfl rfl ?_
  refine x_iload_0 dJ9_checkIndex_0 ?_
  refine x_iload_1 dJ9_checkIndex_1 ?_
  refine x_gets dJ9_checkIndex_2 q708 am_z5 ?_
  refine x_callS3 dJ9_checkIndex_5 rfl okJ7_checkIndex q710 q537 rfl (C_J7_chk hi hn (x_k1 ?_))
  refine x_pop dJ9_checkIndex_8 rfl ?_
  refine x_ret dJ9_checkIndex_9 rfl ?_
  exact k
theorem C_J10_charAt {i c : Int} (hkv : kd L v = 118) (hi : 0 ≤ i ∧ i < ln L v) (hl : ln L v ≤ 8) (hc : fF L v i = c) (hcc : 97 ≤ c ∧ c ≤ 122) (k : Q (.inl [aI c]) L h) : am_C G mJ10_charAt (d + 3) [aR v, aI i] L h Q := by
  refine x_start okJ10_charAt rfl rfl rfl rfl ?_
  refine x_iload_1 dJ10_charAt_0 ?_
  refine x_aload_0 dJ10_charAt_1 ?_
  refine x_alen dJ10_charAt_2 (by first | assumption | (simp only [kd_pf, kd_al, true_and, and_true]; (repeat (first | rw [if_neg (by omega)] | rw [if_pos (by omega)] | rw [if_pos trivial])); first | done | assumption | rfl)) (by decide) (by decide) ?_
  refine x_callS2 dJ10_charAt_3 rfl okJ9_checkIndex q705 q706 rfl (C_J9_checkIndex hi (by omega) (x_k0 ?_))
  refine x_aload_0 dJ10_charAt_6 ?_
  refine x_iload_1 dJ10_charAt_7 ?_
  refine x_baldK_ dJ10_charAt_8 (by first | assumption | (simp only [kd_pf, kd_al, true_and, and_true]; (repeat (first | rw [if_neg (by omega)] | rw [if_pos (by omega)] | rw [if_pos trivial])); first | done | assumption | rfl)) (by omega) (fun r8 => ?_)
  rw [hc]
  refine x_sipush dJ10_charAt_9 rfl ?_
  refine x_iand dJ10_charAt_12 ?_
  rw [bAnd_255 (by omega), if_neg (by omega)]
  refine x_i2c dJ10_charAt_13 (by omega) ?_
  refine x_cret dJ10_charAt_14 rfl (by omega) ?_
  exact k
theorem C_J9_charAt {i c : Int} (hk : kd L s = 21) (hco : fF L s 1 = 0) (hv : fF L s 0 = v) (hkv : kd L v = 118) (hi : 0 ≤ i ∧ i < ln L v) (hl : ln L v ≤ 8) (hc : fF L v i = c) (hcc : 97 ≤ c ∧ c ≤ 122) (k : Q (.inl [aI c]) L h) : am_C G mJ9_charAt (d + 4) [aR s, aI i] L h Q := by
  refine x_start okJ9_charAt rfl rfl rfl rfl ?_
  refine x_aload_0 dJ9_charAt_0 ?_
  refine x_callV0 dJ9_charAt_1 rfl okJ9_isLatin1 q698 q699 q700 (by first | assumption | (simp only [kd_pf, kd_al, true_and, and_true]; (repeat (first | rw [if_neg (by omega)] | rw [if_pos (by omega)] | rw [if_pos trivial])); first | done | assumption | rfl)) am_k21 rfl (C_J9_isLatin1 hk hco (x_k1 ?_))
  refine x_if_eq (tgt := 16) dJ9_charAt_4 rfl (by omega) (fun c4 => ?_) (fun c4 => ?_)
  · exact absurd c4 (by decide)
  · refine x_aload_0 dJ9_charAt_7 ?_
    refine x_getR dJ9_charAt_8 fl946_21 rfl (by first | assumption | (simp only [kd_pf, kd_al, true_and, and_true]; (repeat (first | rw [if_neg (by omega)] | rw [if_pos (by omega)] | rw [if_pos trivial])); first | done | assumption | rfl)) (by assumption) ?_
    refine x_iload_1 dJ9_charAt_11 ?_
    refine x_callS2 dJ9_charAt_12 rfl okJ10_charAt q702 q703 rfl (C_J10_charAt hkv hi hl hc hcc (x_k1 ?_))
    refine x_cret dJ9_charAt_15 rfl (by omega) ?_
    exact k
theorem C_J10_equals {u : Int} (hkv : kd L v = 101) (hku : kd L u = 101) (hlv : 0 ≤ ln L v ∧ ln L v ≤ 8) (hlu : 0 ≤ ln L u ∧ ln L u ≤ 8) (k : Q (.inl [aI (if ln L v = ln L u ∧ ∀ i : Nat, i < (ln L v).toNat → h v i = h u i then 1 else 0)]) L h) : am_C G mJ10_equals (d + 1) [aR v, aR u] L h Q := by
  refine x_start okJ10_equals rfl rfl rfl rfl ?_
  refine x_aload_0 dJ10_equals_0 ?_
  refine x_alen dJ10_equals_1 (by first | assumption | (simp only [kd_pf, kd_al, true_and, and_true]; (repeat (first | rw [if_neg (by omega)] | rw [if_pos (by omega)] | rw [if_pos trivial])); first | done | assumption | rfl)) (by decide) (by decide) ?_
  refine x_aload_1 dJ10_equals_2 ?_
  refine x_alen dJ10_equals_3 (by first | assumption | (simp only [kd_pf, kd_al, true_and, and_true]; (repeat (first | rw [if_neg (by omega)] | rw [if_pos (by omega)] | rw [if_pos trivial])); first | done | assumption | rfl)) (by decide) (by decide) ?_
  refine x_icmp_ne (tgt := 34) dJ10_equals_4 rfl (by omega) (by omega) (fun c4 => ?_) (fun c4 => ?_)
  · refine x_iconst dJ10_equals_34 ?_
    refine x_zret dJ10_equals_35 rfl (by omega) ?_
    refine x_q1 ?_ k
    rw [if_neg (fun q => by omega)]
  · refine x_iconst dJ10_equals_7 ?_
    refine x_istore_2 dJ10_equals_8 rfl ?_
    refine x_up0 (ln L v) (fun i => 0 ≤ i → i ≤ ln L v → (∀ j : Nat, (j : Int) < i → h v j = h u j) → am_X G mJ10_equals (d + 1) 9 [aR v, aR u, aI i] [] L h Q) (fun i ih h0 h9 hj => ?_) 0 (by omega) (by omega) (fun j q => by omega)
    refine x_iload_2 dJ10_equals_9 ?_
    refine x_aload_0 dJ10_equals_10 ?_
    refine x_alen dJ10_equals_11 (by first | assumption | (simp only [kd_pf, kd_al, true_and, and_true]; (repeat (first | rw [if_neg (by omega)] | rw [if_pos (by omega)] | rw [if_pos trivial])); first | done | assumption | rfl)) (by decide) (by decide) ?_
    refine x_icmp_ge (tgt := 32) dJ10_equals_12 rfl (by omega) (by omega) (fun c12 => ?_) (fun c12 => ?_)
    · refine x_iconst dJ10_equals_32 ?_
      refine x_zret dJ10_equals_33 rfl (by omega) ?_
      refine x_q1 ?_ k
      rw [if_pos ⟨by omega, fun j q => hj j (by omega)⟩]
    · refine x_aload_0 dJ10_equals_15 ?_
      refine x_iload_2 dJ10_equals_16 ?_
      refine x_bald_ dJ10_equals_17 (by first | assumption | (simp only [kd_pf, kd_al, true_and, and_true]; (repeat (first | rw [if_neg (by omega)] | rw [if_pos (by omega)] | rw [if_pos trivial])); first | done | assumption | rfl)) (by omega) (fun r17 => ?_)
      refine x_aload_1 dJ10_equals_18 ?_
      refine x_iload_2 dJ10_equals_19 ?_
      refine x_bald_ dJ10_equals_20 (by first | assumption | (simp only [kd_pf, kd_al, true_and, and_true]; (repeat (first | rw [if_neg (by omega)] | rw [if_pos (by omega)] | rw [if_pos trivial])); first | done | assumption | rfl)) (by omega) (fun r20 => ?_)
      refine x_icmp_eq (tgt := 26) dJ10_equals_21 rfl (by omega) (by omega) (fun c21 => ?_) (fun c21 => ?_)
      · refine x_iinc2 dJ10_equals_26 rfl ?_
        refine x_goto (tgt := 9) dJ10_equals_29 rfl ?_
        refine ih (by omega) (by omega) (by omega) (fun j q => ?_)
        rcases Int.lt_or_le j i with e | e
        · exact hj j e
        · rw [show (j : Int) = i by omega]
          exact c21
      · refine x_iconst dJ10_equals_24 ?_
        refine x_zret dJ10_equals_25 rfl (by omega) ?_
        refine x_q1 ?_ k
        rw [if_neg (fun q => c21 ?_)]
        have := q.2 i.toNat (by omega)
        rw [show ((i.toNat : Nat) : Int) = i by omega] at this
        exact this
theorem C_J9_equals {t i j : Int} (hs : NmL L h s i) (ht : NmL L h t j) (k : Q (.inl [aI (if i = j then 1 else 0)]) L h) : am_C G mJ9_equals (d + 2) [aR s, aR t] L h Q := by
  obtain ⟨s1, s2, s3, s4, s5, s6, rfl⟩ := id hs
  obtain ⟨t1, t2, t3, t4, t5, t6, rfl⟩ := id ht
  by_cases e : s = t
  · subst e
    refine x_start okJ9_equals rfl rfl rfl rfl ?_
    refine x_aload_0 dJ9_equals_0 ?_
    refine x_aload_1 dJ9_equals_1 ?_
    refine x_acmp_neY (tgt := 7) dJ9_equals_2 rfl  ?_
    refine x_iconst dJ9_equals_5 ?_
    refine x_zret dJ9_equals_6 rfl (by omega) ?_
    refine x_q1 ?_ k
    rw [if_pos rfl]
  · have ee : (if ln L (fF L s 0) = ln L (fF L t 0) ∧ ∀ i : Nat, i < (ln L (fF L s 0)).toNat → h (fF L s 0) i = h (fF L t 0) i then (1 : Int) else 0) = if idN (h (fF L s 0)) (ln L (fF L s 0)).toNat = idN (h (fF L t 0)) (ln L (fF L t 0)).toNat then 1 else 0 := by
      by_cases q : idN (h (fF L s 0)) (ln L (fF L s 0)).toNat = idN (h (fF L t 0)) (ln L (fF L t 0)).toNat
      · obtain ⟨q1, q2⟩ := idN_inj _ _ s6 t6 q
        rw [if_pos q, if_pos ⟨by omega, q2⟩]
      · rw [if_neg q, if_neg]
        intro z
        refine q ?_
        rw [← z.1]
        exact idN_cg _ z.2
    obtain ⟨z, hz, z01⟩ : ∃ z : Int, (if idN (h (fF L s 0)) (ln L (fF L s 0)).toNat = idN (h (fF L t 0)) (ln L (fF L t 0)).toNat then (1 : Int) else 0) = z ∧ (z = 0 ∨ z = 1) := ⟨_, rfl, by split <;> simp⟩
    rw [hz] at k ee
    refine x_start okJ9_equals rfl rfl rfl rfl ?_
    refine x_aload_0 dJ9_equals_0 ?_
    refine x_aload_1 dJ9_equals_1 ?_
    refine x_acmp_neN (tgt := 7) dJ9_equals_2 rfl (Or.inl ⟨s2, Or.inr (by omega)⟩) e ?_
    refine x_aload_1 dJ9_equals_7 ?_
    refine x_inst dJ9_equals_8 q972 (by first | assumption | (simp only [kd_pf, kd_al, true_and, and_true]; (repeat (first | rw [if_neg (by omega)] | rw [if_pos (by omega)] | rw [if_pos trivial])); first | done | assumption | rfl)) am_k21 ?_
    refine x_if_eq (tgt := 54) dJ9_equals_11 rfl (by omega) (fun c11 => ?_) (fun c11 => ?_)
    · refine x_iconst dJ9_equals_54 ?_
      refine x_zret dJ9_equals_55 rfl (by omega) ?_
      first
      | exact absurd c11 (by decide)
      | exact absurd rfl c33
      | (refine x_q1 ?_ k; omega)
    · refine x_aload_1 dJ9_equals_14 ?_
      refine x_cast dJ9_equals_15 q972 (by first | assumption | (simp only [kd_pf, kd_al, true_and, and_true]; (repeat (first | rw [if_neg (by omega)] | rw [if_pos (by omega)] | rw [if_pos trivial])); first | done | assumption | rfl)) am_k21 ?_
      refine x_astore_2 dJ9_equals_18 rfl ?_
      refine x_gets dJ9_equals_19 q692 am_z1 ?_
      refine x_if_eq (tgt := 36) dJ9_equals_22 rfl (by omega) (fun c22 => ?_) (fun c22 => ?_)
      · refine x_aload_0 dJ9_equals_36 ?_
        refine x_getR dJ9_equals_37 fl946_21 rfl (by first | assumption | (simp only [kd_pf, kd_al, true_and, and_true]; (repeat (first | rw [if_neg (by omega)] | rw [if_pos (by omega)] | rw [if_pos trivial])); first | done | assumption | rfl)) (by rfl) ?_
        refine x_aload_2 dJ9_equals_40 ?_
        refine x_getR dJ9_equals_41 fl946_21 rfl (by first | assumption | (simp only [kd_pf, kd_al, true_and, and_true]; (repeat (first | rw [if_neg (by omega)] | rw [if_pos (by omega)] | rw [if_pos trivial])); first | done | assumption | rfl)) (by rfl) ?_
        refine x_callS2 dJ9_equals_44 rfl okJ10_equals q973 q974 rfl (C_J10_equals s4 t4 ⟨by omega, s5.2⟩ ⟨by omega, t5.2⟩ (x_k1 ?_))
        rw [ee]
        refine x_if_eq (tgt := 54) dJ9_equals_47 rfl (by omega) (fun c47 => ?_) (fun c47 => ?_)
        · refine x_iconst dJ9_equals_54 ?_
          refine x_zret dJ9_equals_55 rfl (by omega) ?_
          first
          | exact absurd c11 (by decide)
          | exact absurd rfl c33
          | (refine x_q1 ?_ k; omega)
        · refine x_iconst dJ9_equals_50 ?_
          refine x_goto (tgt := 55) dJ9_equals_51 rfl ?_
          refine x_zret dJ9_equals_55 rfl (by omega) ?_
          first
          | exact absurd c11 (by decide)
          | exact absurd rfl c33
          | (refine x_q1 ?_ k; omega)
      · refine x_aload_0 dJ9_equals_25 ?_
        refine x_getKB dJ9_equals_26 fl947_21 (by first | assumption | (simp only [kd_pf, kd_al, true_and, and_true]; (repeat (first | rw [if_neg (by omega)] | rw [if_pos (by omega)] | rw [if_pos trivial])); first | done | assumption | rfl)) (by exact s3) (fun r26 => ?_)
        refine x_aload_2 dJ9_equals_29 ?_
        refine x_getKB dJ9_equals_30 fl947_21 (by first | assumption | (simp only [kd_pf, kd_al, true_and, and_true]; (repeat (first | rw [if_neg (by omega)] | rw [if_pos (by omega)] | rw [if_pos trivial])); first | done | assumption | rfl)) (by exact t3) (fun r30 => ?_)
        refine x_icmp_ne (tgt := 54) dJ9_equals_33 rfl (by omega) (by omega) (fun c33 => ?_) (fun c33 => ?_)
        · refine x_iconst dJ9_equals_54 ?_
          refine x_zret dJ9_equals_55 rfl (by omega) ?_
          first
          | exact absurd c11 (by decide)
          | exact absurd rfl c33
          | (refine x_q1 ?_ k; omega)
        · refine x_aload_0 dJ9_equals_36 ?_
          refine x_getR dJ9_equals_37 fl946_21 rfl (by first | assumption | (simp only [kd_pf, kd_al, true_and, and_true]; (repeat (first | rw [if_neg (by omega)] | rw [if_pos (by omega)] | rw [if_pos trivial])); first | done | assumption | rfl)) (by rfl) ?_
          refine x_aload_2 dJ9_equals_40 ?_
          refine x_getR dJ9_equals_41 fl946_21 rfl (by first | assumption | (simp only [kd_pf, kd_al, true_and, and_true]; (repeat (first | rw [if_neg (by omega)] | rw [if_pos (by omega)] | rw [if_pos trivial])); first | done | assumption | rfl)) (by rfl) ?_
          refine x_callS2 dJ9_equals_44 rfl okJ10_equals q973 q974 rfl (C_J10_equals s4 t4 ⟨by omega, s5.2⟩ ⟨by omega, t5.2⟩ (x_k1 ?_))
          rw [ee]
          refine x_if_eq (tgt := 54) dJ9_equals_47 rfl (by omega) (fun c47 => ?_) (fun c47 => ?_)
          · refine x_iconst dJ9_equals_54 ?_
            refine x_zret dJ9_equals_55 rfl (by omega) ?_
            first
            | exact absurd c11 (by decide)
            | exact absurd rfl c33
            | (refine x_q1 ?_ k; omega)
          · refine x_iconst dJ9_equals_50 ?_
            refine x_goto (tgt := 55) dJ9_equals_51 rfl ?_
            refine x_zret dJ9_equals_55 rfl (by omega) ?_
            first
            | exact absurd c11 (by decide)
            | exact absurd rfl c33
            | (refine x_q1 ?_ k; omega)
end STRS
