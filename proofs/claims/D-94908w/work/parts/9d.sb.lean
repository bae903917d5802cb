/-! THE JDK's StringBuilder and String, as far as names need it: at most 8 letters, Latin1 -/
set_option maxRecDepth 100000
section SB
variable {G : am_G} {L : am_L} {h : am_H} {a v n : Int} {d : Nat} {Q : am_O → am_L → am_H → Prop}
theorem C_J12_init (hk : kd L a = 22) (ha : a < nx L) (k : Q (.inl []) (am_al L 101 16) (am_st (am_st h a 0 (nx L)) a 1 0)) : am_C G mJ12_init (d + 2) [aR a, aI 16] L h Q := by
  refine x_start okJ12_init rfl rfl rfl rfl ?_
  refine x_aload_0 dJ12_init_0 ?_
  refine x_objInit dJ12_init_1 q807 q158 q159 (by omega) rfl ?_
  refine x_gets dJ12_init_4 q808 am_z1 ?_
  refine x_if_eq (tgt := 25) dJ12_init_7 rfl (by omega) (fun c7 => ?_) (fun c7 => ?_)
  · exact absurd c7 (by decide)
  · refine x_aload_0 dJ12_init_10 ?_
    refine x_iload_1 dJ12_init_11 ?_
    refine x_newB dJ12_init_12 q233 (by omega) (fun z12 => ?_)
    refine x_putW dJ12_init_14 fl816_22 rfl (by first | assumption | (simp only [kd_pf, kd_al, true_and, and_true]; (repeat (first | rw [if_neg (by omega)] | rw [if_pos (by omega)] | rw [if_pos trivial])); first | done | assumption | rfl)) trivial ?_
    refine x_aload_0 dJ12_init_17 ?_
    refine x_iconst dJ12_init_18 ?_
    refine x_putB_ dJ12_init_19 fl817_22 (by first | assumption | (simp only [kd_pf, kd_al, true_and, and_true]; (repeat (first | rw [if_neg (by omega)] | rw [if_pos (by omega)] | rw [if_pos trivial])); first | done | assumption | rfl)) (by omega) ?_
    refine x_goto (tgt := 38) dJ12_init_22 rfl ?_
    refine x_ret dJ12_init_38 rfl ?_
    exact k
theorem C_J13_init (hk : kd L a = 22) (ha : a < nx L) (k : Q (.inl []) (am_al L 101 16) (am_st (am_st h a 0 (nx L)) a 1 0)) : am_C G mJ13_init (d + 3) [aR a] L h Q := by
  refine x_start okJ13_init rfl rfl rfl rfl ?_
  refine x_aload_0 dJ13_init_0 ?_
  refine x_bipush dJ13_init_1 rfl ?_
  refine x_callI1 dJ13_init_3 rfl okJ12_init rfl rfl q804 q805 (by omega) rfl (C_J12_init hk ha (x_k0 ?_))
  refine x_ret dJ13_init_6 rfl ?_
  exact k
theorem C_J12_isLatin1 (hk : kd L a = 22) (hc : h a 1 = 0) (k : Q (.inl [aI 1]) L h) : am_C G mJ12_isLatin1 (d + 1) [aR a] L h Q := by
  refine x_start okJ12_isLatin1 rfl rfl rfl rfl ?_
  refine x_gets dJ12_isLatin1_0 q808 am_z1 ?_
  refine x_if_eq (tgt := 17) dJ12_isLatin1_3 rfl (by omega) (fun c3 => ?_) (fun c3 => ?_)
  · first
    | exact absurd c3 (by decide)
    | exact absurd hc c10
  · refine x_aload_0 dJ12_isLatin1_6 ?_
    refine x_getB_ dJ12_isLatin1_7 fl817_22 (by first | assumption | (simp only [kd_pf, kd_al, true_and, and_true]; (repeat (first | rw [if_neg (by omega)] | rw [if_pos (by omega)] | rw [if_pos trivial])); first | done | assumption | rfl)) (fun r7 => ?_)
    refine x_if_ne (tgt := 17) dJ12_isLatin1_10 rfl (by omega) (fun c10 => ?_) (fun c10 => ?_)
    · first
      | exact absurd c3 (by decide)
      | exact absurd hc c10
    · refine x_iconst dJ12_isLatin1_13 ?_
      refine x_goto (tgt := 18) dJ12_isLatin1_14 rfl ?_
      refine x_zret dJ12_isLatin1_18 rfl (by omega) ?_
      exact k
theorem C_J10_canEncode {c : Int} (hc : 0 ≤ c ∧ c ≤ 255) (k : Q (.inl [aI 1]) L h) : am_C G mJ10_canEncode (d + 1) [aI c] L h Q := by
  refine x_start okJ10_canEncode rfl rfl rfl rfl ?_
  refine x_iload_0 dJ10_canEncode_0 ?_
  refine x_sipush dJ10_canEncode_1 rfl ?_
  refine x_icmp_gt (tgt := 11) dJ10_canEncode_4 rfl (by omega) (by omega) (fun c4 => ?_) (fun c4 => ?_)
  · exact absurd c4 (by omega)
  · refine x_iconst dJ10_canEncode_7 ?_
    refine x_goto (tgt := 12) dJ10_canEncode_8 rfl ?_
    refine x_zret dJ10_canEncode_12 rfl (by omega) ?_
    exact k
/-- room for one more: nothing happens -/
theorem C_J12_ensure {m : Int} (hk : kd L a = 22) (hv : h a 0 = v) (hkv : kd L v = 101) (hlv : ln L v = 16) (hc : h a 1 = 0) (hm : 0 ≤ m ∧ m ≤ 16) (k : Q (.inl []) L h) : am_C G mJ12_ensureCapacityInternal (d + 1) [aR a, aI m] L h Q := by
  refine x_start okJ12_ensureCapacityInternal rfl rfl rfl rfl ?_
  refine x_aload_0 dJ12_ensureCapacityInternal_0 ?_
  refine x_getW dJ12_ensureCapacityInternal_1 fl816_22 rfl (by first | assumption | (simp only [kd_pf, kd_al, true_and, and_true]; (repeat (first | rw [if_neg (by omega)] | rw [if_pos (by omega)] | rw [if_pos trivial])); first | done | assumption | rfl)) (by exact hv) ?_
  refine x_alen dJ12_ensureCapacityInternal_4 (by first | assumption | (simp only [kd_pf, kd_al, true_and, and_true]; (repeat (first | rw [if_neg (by omega)] | rw [if_pos (by omega)] | rw [if_pos trivial])); first | done | assumption | rfl)) (by decide) (by decide) ?_
  refine x_aload_0 dJ12_ensureCapacityInternal_5 ?_
  refine x_getB_ dJ12_ensureCapacityInternal_6 fl817_22 (by first | assumption | (simp only [kd_pf, kd_al, true_and, and_true]; (repeat (first | rw [if_neg (by omega)] | rw [if_pos (by omega)] | rw [if_pos trivial])); first | done | assumption | rfl)) (fun r6 => ?_)
  rw [hc] at r6 ⊢
  refine x_ishr dJ12_ensureCapacityInternal_9 ?_
  have e9 : bShr (ln L v) 0 = 16 := by
    rw [hlv]
    decide
  rw [e9]
  refine x_istore_2 dJ12_ensureCapacityInternal_10 rfl ?_
  refine x_iload_1 dJ12_ensureCapacityInternal_11 ?_
  refine x_iload_2 dJ12_ensureCapacityInternal_12 ?_
  refine x_isub dJ12_ensureCapacityInternal_13 ?_
  refine x_if_le (tgt := 38) dJ12_ensureCapacityInternal_14 rfl (by omega) (fun c14 => ?_) (fun c14 => ?_)
  · refine x_ret dJ12_ensureCapacityInternal_38 rfl ?_
    exact k
  · exact absurd c14 (by omega)
theorem C_J12_append {c : Int} (hk : kd L a = 22) (hv : h a 0 = v) (hkv : kd L v = 101) (hlv : ln L v = 16) (hc : h a 1 = 0) (hn : h a 3 = n) (hnn : 0 ≤ n ∧ n < 16) (hcc : 97 ≤ c ∧ c ≤ 122) (k : Q (.inl [aR a]) L (am_st (am_st h a 3 (n + 1)) v n c)) : am_C G mJ12_append (d + 2) [aR a, aI c] L h Q := by
  have ei : bI2b c = c := by
    obtain ⟨m, rfl⟩ : ∃ m : Nat, c = m := ⟨c.toNat, by omega⟩
    have : m = 97 ∨ m = 98 ∨ m = 99 ∨ m = 100 ∨ m = 101 ∨ m = 102 ∨ m = 103 ∨ m = 104 ∨ m = 105 ∨ m = 106 ∨ m = 107 ∨ m = 108 ∨ m = 109 ∨ m = 110 ∨ m = 111 ∨ m = 112 ∨ m = 113 ∨ m = 114 ∨ m = 115 ∨ m = 116 ∨ m = 117 ∨ m = 118 ∨ m = 119 ∨ m = 120 ∨ m = 121 ∨ m = 122 := by omega
    rcases this with rfl | rfl | rfl | rfl | rfl | rfl | rfl | rfl | rfl | rfl | rfl | rfl | rfl | rfl | rfl | rfl | rfl | rfl | rfl | rfl | rfl | rfl | rfl | rfl | rfl | rfl <;> decide
  refine x_start okJ12_append rfl rfl rfl rfl ?_
  refine x_aload_0 dJ12_append_0 ?_
  refine x_aload_0 dJ12_append_1 ?_
  refine x_getI_ dJ12_append_2 fl819_22 (by first | assumption | (simp only [kd_pf, kd_al, true_and, and_true]; (repeat (first | rw [if_neg (by omega)] | rw [if_pos (by omega)] | rw [if_pos trivial])); first | done | assumption | rfl)) (fun r2 => ?_)
  rw [hn] at r2 ⊢
  refine x_iconst dJ12_append_5 ?_
  refine x_iadd dJ12_append_6 ?_
  refine x_callP (As := [_]) dJ12_append_7 rfl okJ12_ensureCapacityInternal q836 q837 q838 q870 rfl (by first | assumption | (simp only [kd_pf, kd_al, true_and, and_true]; (repeat (first | rw [if_neg (by omega)] | rw [if_pos (by omega)] | rw [if_pos trivial])); first | done | assumption | rfl)) am_k22 rfl rfl rfl (C_J12_ensure hk hv hkv hlv hc (by omega) (x_k0 ?_))
  refine x_aload_0 dJ12_append_10 ?_
  refine x_callV0 dJ12_append_11 rfl okJ12_isLatin1 q867 q868 q870 (by first | assumption | (simp only [kd_pf, kd_al, true_and, and_true]; (repeat (first | rw [if_neg (by omega)] | rw [if_pos (by omega)] | rw [if_pos trivial])); first | done | assumption | rfl)) am_k22 rfl (C_J12_isLatin1 hk hc (x_k1 ?_))
  refine x_if_eq (tgt := 45) dJ12_append_14 rfl (by omega) (fun c14 => ?_) (fun c14 => ?_)
  · first
    | exact absurd c14 (by decide)
    | exact absurd c21 (by decide)
  · refine x_iload_1 dJ12_append_17 ?_
    refine x_callS1 dJ12_append_18 rfl okJ10_canEncode q872 q873 rfl (C_J10_canEncode (by omega) (x_k1 ?_))
    refine x_if_eq (tgt := 45) dJ12_append_21 rfl (by omega) (fun c21 => ?_) (fun c21 => ?_)
    · first
      | exact absurd c14 (by decide)
      | exact absurd c21 (by decide)
    · refine x_aload_0 dJ12_append_24 ?_
      refine x_getW dJ12_append_25 fl816_22 rfl (by first | assumption | (simp only [kd_pf, kd_al, true_and, and_true]; (repeat (first | rw [if_neg (by omega)] | rw [if_pos (by omega)] | rw [if_pos trivial])); first | done | assumption | rfl)) (by exact hv) ?_
      refine x_aload_0 dJ12_append_28 ?_
      refine x_dup dJ12_append_29 rfl ?_
      refine x_getI_ dJ12_append_30 fl819_22 (by first | assumption | (simp only [kd_pf, kd_al, true_and, and_true]; (repeat (first | rw [if_neg (by omega)] | rw [if_pos (by omega)] | rw [if_pos trivial])); first | done | assumption | rfl)) (fun r30 => ?_)
      rw [hn] at r30 ⊢
      refine x_dup_x1 dJ12_append_33 rfl rfl ?_
      refine x_iconst dJ12_append_34 ?_
      refine x_iadd dJ12_append_35 ?_
      refine x_putI_ dJ12_append_36 fl819_22 (by first | assumption | (simp only [kd_pf, kd_al, true_and, and_true]; (repeat (first | rw [if_neg (by omega)] | rw [if_pos (by omega)] | rw [if_pos trivial])); first | done | assumption | rfl)) (by omega) ?_
      refine x_iload_1 dJ12_append_39 ?_
      refine x_i2b dJ12_append_40 ?_
      rw [ei]
      refine x_bast_ dJ12_append_41 (by first | assumption | (simp only [kd_pf, kd_al, true_and, and_true]; (repeat (first | rw [if_neg (by omega)] | rw [if_pos (by omega)] | rw [if_pos trivial])); first | done | assumption | rfl)) (by omega) (by omega) ?_
      refine x_goto (tgt := 75) dJ12_append_42 rfl ?_
      refine x_aload_0 dJ12_append_75 ?_
      refine x_aret dJ12_append_76 rfl ?_
      exact k
theorem C_J13_append {c : Int} (hk : kd L a = 22) (hv : h a 0 = v) (hkv : kd L v = 101) (hlv : ln L v = 16) (hc : h a 1 = 0) (hn : h a 3 = n) (hnn : 0 ≤ n ∧ n < 16) (hcc : 97 ≤ c ∧ c ≤ 122) (k : Q (.inl [aR a]) L (am_st (am_st h a 3 (n + 1)) v n c)) : am_C G mJ13_append (d + 3) [aR a, aI c] L h Q := by
  refine x_start okJ13_append rfl rfl rfl rfl ?_
  refine x_aload_0 dJ13_append_0 ?_
  refine x_iload_1 dJ13_append_1 ?_
  refine x_callSU (As := [_]) dJ13_append_2 rfl okJ12_append (by decide) q833 q2238 q828 q834 (by first | assumption | (simp only [kd_pf, kd_al, true_and, and_true]; (repeat (first | rw [if_neg (by omega)] | rw [if_pos (by omega)] | rw [if_pos trivial])); first | done | assumption | rfl)) am_k22 rfl rfl rfl (C_J12_append hk hv hkv hlv hc hn hnn hcc (x_k1 ?_))
  refine x_pop dJ13_append_5 rfl ?_
  refine x_aload_0 dJ13_append_6 ?_
  refine x_aret dJ13_append_7 rfl ?_
  exact k
theorem C_J12_getValue (hk : kd L a = 22) (hv : h a 0 = v) (k : Q (.inl [aR v]) L h) : am_C G mJ12_getValue (d + 1) [aR a] L h Q := by
  refine x_start okJ12_getValue rfl rfl rfl rfl ?_
  refine x_aload_0 dJ12_getValue_0 ?_
  refine x_getW dJ12_getValue_1 fl816_22 rfl (by first | assumption | (simp only [kd_pf, kd_al, true_and, and_true]; (repeat (first | rw [if_neg (by omega)] | rw [if_pos (by omega)] | rw [if_pos trivial])); first | done | assumption | rfl)) (by exact hv) ?_
  refine x_aretA dJ12_getValue_4 rfl ?_
  exact k
theorem C_J12_length (hk : kd L a = 22) (hn : h a 3 = n) (k : Q (.inl [aI n]) L h) : am_C G mJ12_length (d + 1) [aR a] L h Q := by
  refine x_start okJ12_length rfl rfl rfl rfl ?_
  refine x_aload_0 dJ12_length_0 ?_
  refine x_getI_ dJ12_length_1 fl819_22 (by first | assumption | (simp only [kd_pf, kd_al, true_and, and_true]; (repeat (first | rw [if_neg (by omega)] | rw [if_pos (by omega)] | rw [if_pos trivial])); first | done | assumption | rfl)) (fun r1 => ?_)
  rw [hn] at r1 ⊢
  refine x_iret dJ12_length_4 rfl ?_
  exact k
theorem C_J13_length (hk : kd L a = 22) (hn : h a 3 = n) (k : Q (.inl [aI n]) L h) : am_C G mJ13_length (d + 2) [aR a] L h Q := by
  refine x_start okJ13_length rfl rfl rfl rfl ?_
  refine x_aload_0 dJ13_length_0 ?_
  refine x_callSU (As := []) dJ13_length_1 rfl okJ12_length (by decide) q924 q920 q828 q919 (by first | assumption | (simp only [kd_pf, kd_al, true_and, and_true]; (repeat (first | rw [if_neg (by omega)] | rw [if_pos (by omega)] | rw [if_pos trivial])); first | done | assumption | rfl)) am_k22 rfl rfl rfl (C_J12_length hk hn (x_k1 ?_))
  refine x_iret dJ13_length_4 rfl ?_
  exact k
theorem C_J15_checkLength {i j : Int} (hi : 0 ≤ i ∧ i ≤ j) (hj : j ≤ 2147483647) (k : Q (.inl []) L h) : am_C G mJ15_checkLength (d + 1) [aI i, aI j] L h Q := by
  refine x_start okJ15_checkLength rfl rfl rfl rfl ?_
  refine x_iload_1 dJ15_checkLength_0 ?_
  refine x_iload_0 dJ15_checkLength_1 ?_
  refine x_icmp_ge (tgt := 37) dJ15_checkLength_2 rfl (by omega) (by omega) (fun c2 => ?_) (fun c2 => ?_)
  · refine x_ret dJ15_checkLength_37 rfl ?_
    exact k
  · exfalso; omega
/-- the first n bytes of v, as a new array -/
theorem C_J15_copyOfRangeByte (hkv : kd L v = 101) (hlv : ln L v = 16) (hv : v < nx L) (hn : 0 ≤ n ∧ n ≤ 8) (k : Q (.inl [aR (nx L)]) (am_al L 101 n) (am_cp h v (nx L) 0 0 n)) : am_C G mJ15_copyOfRangeByte (d + 3) [aR v, aI 0, aI n] L h Q := by
  refine x_start okJ15_copyOfRangeByte rfl rfl rfl rfl ?_
  refine x_iload_1 dJ15_copyOfRangeByte_0 ?_
  refine x_iload_2 dJ15_copyOfRangeByte_1 ?_
  refine x_callS2 dJ15_copyOfRangeByte_2 rfl okJ15_checkLength q933 q934 rfl (C_J15_checkLength (by omega) (by omega) (x_k0 ?_))
  refine x_iload_2 dJ15_copyOfRangeByte_5 ?_
  refine x_iload_1 dJ15_copyOfRangeByte_6 ?_
  refine x_isub dJ15_copyOfRangeByte_7 ?_
  refine x_istore_3 dJ15_copyOfRangeByte_8 rfl ?_
  refine x_iload_3 dJ15_copyOfRangeByte_9 ?_
  rw [show n - 0 = n by omega]
  refine x_newB dJ15_copyOfRangeByte_10 q233 (by omega) (fun z10 => ?_)
  refine x_astore4 dJ15_copyOfRangeByte_12 rfl ?_
  refine x_aload_0 dJ15_copyOfRangeByte_14 ?_
  refine x_iload_1 dJ15_copyOfRangeByte_15 ?_
  refine x_aload4 dJ15_copyOfRangeByte_16 ?_
  refine x_iconst dJ15_copyOfRangeByte_18 ?_
  refine x_aload_0 dJ15_copyOfRangeByte_19 ?_
  refine x_alen dJ15_copyOfRangeByte_20 (by exact (if_neg (by omega)).trans hkv) (by decide) (by decide) ?_
  rw [show ln (am_al L 101 n) v = 16 from (if_neg (by omega)).trans hlv]
  refine x_iload_1 dJ15_copyOfRangeByte_21 ?_
  refine x_isub dJ15_copyOfRangeByte_22 ?_
  refine x_iload_3 dJ15_copyOfRangeByte_23 ?_
  refine x_mmin dJ15_copyOfRangeByte_24 q863 q569 q135 q570 rfl (by omega) (by omega) ?_
  rw [show (if n < 16 - 0 then n else 16 - 0) = n by split <;> omega]
  refine x_acopy (k := 101) dJ15_copyOfRangeByte_27 q864 q866 q865 q145 (by decide) (by decide) (by first | assumption | (simp only [kd_pf, kd_al, true_and, and_true]; (repeat (first | rw [if_neg (by omega)] | rw [if_pos (by omega)] | rw [if_pos trivial])); first | done | assumption | rfl)) (by first | assumption | (simp only [kd_pf, kd_al, true_and, and_true]; (repeat (first | rw [if_neg (by omega)] | rw [if_pos (by omega)] | rw [if_pos trivial])); first | done | assumption | rfl)) (by omega) (by omega) (by omega) (by rw [ln_al]; first | (rw [if_pos rfl]; omega) | (rw [if_neg (by omega), hlv]; omega)) (by rw [ln_al]; first | (rw [if_pos rfl]; omega) | (rw [if_neg (by omega), hlv]; omega)) rfl ?_
  refine x_aload4 dJ15_copyOfRangeByte_30 ?_
  refine x_aretA dJ15_copyOfRangeByte_32 rfl ?_
  exact k
theorem C_J15_copyOfRange (hkv : kd L v = 101) (hlv : ln L v = 16) (hv : v < nx L) (hn : 0 ≤ n ∧ n ≤ 8) (k : Q (.inl [aR (nx L)]) (am_al L 101 n) (am_cp h v (nx L) 0 0 n)) : am_C G mJ15_copyOfRange (d + 4) [aR v, aI 0, aI n] L h Q := by
  refine x_start okJ15_copyOfRange rfl rfl rfl rfl ?_
  refine x_iload_1 dJ15_copyOfRange_0 ?_
  refine x_if_ne (tgt := 10) dJ15_copyOfRange_1 rfl (by omega) (fun c1 => ?_) (fun c1 => ?_)
  · refine x_aload_0 dJ15_copyOfRange_10 ?_
    refine x_iload_1 dJ15_copyOfRange_11 ?_
    refine x_iload_2 dJ15_copyOfRange_12 ?_
    refine x_callS3 dJ15_copyOfRange_13 rfl okJ15_copyOfRangeByte q930 q931 rfl (C_J15_copyOfRangeByte hkv hlv hv hn (x_k1 ?_))
    refine x_aretA dJ15_copyOfRange_16 rfl ?_
    exact k
  · refine x_iload_2 dJ15_copyOfRange_4 ?_
    refine x_aload_0 dJ15_copyOfRange_5 ?_
    refine x_alen dJ15_copyOfRange_6 (by first | assumption | (simp only [kd_pf, kd_al, true_and, and_true]; (repeat (first | rw [if_neg (by omega)] | rw [if_pos (by omega)] | rw [if_pos trivial])); first | done | assumption | rfl)) (by decide) (by decide) ?_
    refine x_icmp_eq (tgt := 17) dJ15_copyOfRange_7 rfl (by omega) (by omega) (fun c7 => ?_) (fun c7 => ?_)
    · exfalso; omega
    · refine x_aload_0 dJ15_copyOfRange_10 ?_
      refine x_iload_1 dJ15_copyOfRange_11 ?_
      refine x_iload_2 dJ15_copyOfRange_12 ?_
      refine x_callS3 dJ15_copyOfRange_13 rfl okJ15_copyOfRangeByte q930 q931 rfl (C_J15_copyOfRangeByte hkv hlv hv hn (x_k1 ?_))
      refine x_aretA dJ15_copyOfRange_16 rfl ?_
      exact k
end SB
