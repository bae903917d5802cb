/-! TOKENS: a name as a new String, a number -/
set_option maxRecDepth 100000
section TEXT
variable {G : am_G} {L : am_L} {h : am_H} {s a v n x : Int} {d : Nat} {Q : am_O → am_L → am_H → Prop}
theorem C_J9_init_2 (hs : kd L s = 21) (h2 : 200 ≤ s) (hk : kd L a = 22) (hv : h a 0 = v) (hkv : kd L v = 101) (hlv : ln L v = 16) (hvn : v < nx L) (hsn : s < nx L) (hc : h a 1 = 0) (hn : h a 3 = n) (hnn : 0 ≤ n ∧ n ≤ 8) (k : Q (.inl []) (am_pf (am_al (am_pf L s 1 0) 101 n) s 0 (nx L)) (am_cp h v (nx L) 0 0 n)) : am_C G mJ9_init_2 (d + 6) [aR s, aR a, aR 0] L h Q := by
  refine x_start okJ9_init_2 rfl rfl rfl rfl ?_
  refine x_aload_0 dJ9_init_2_0 ?_
  refine x_objInit dJ9_init_2_1 q912 q158 q159 (by first | omega | (rw [kd_al, if_pos (by omega)]; decide)) rfl ?_
  refine x_aload_1 dJ9_init_2_4 ?_
  refine x_callV0 dJ9_init_2_5 rfl okJ12_getValue q913 q914 q916 (by first | assumption | (simp only [kd_pf, kd_al, nx_pf, nx_al, true_and, and_true]; (repeat (first | rw [if_neg (by omega)] | rw [if_pos (by omega)] | rw [if_pos trivial])); first | done | assumption | rfl)) am_k22 rfl (C_J12_getValue hk hv (x_k1 ?_))
  refine x_astore_3 dJ9_init_2_8 rfl ?_
  refine x_aload_1 dJ9_init_2_9 ?_
  refine x_callO (As := []) (owner := "java/lang/AbstractStringBuilder") dJ9_init_2_10 rfl okJ13_length q918 q920 q919 q925 ⟨by decide, by decide, by decide +kernel⟩ q922 q921 (by first | assumption | (simp only [kd_pf, kd_al, nx_pf, nx_al, true_and, and_true]; (repeat (first | rw [if_neg (by omega)] | rw [if_pos (by omega)] | rw [if_pos trivial])); first | done | assumption | rfl)) am_k22 rfl rfl rfl (C_J13_length hk hn (x_k1 ?_))
  refine x_istore4 dJ9_init_2_13 rfl ?_
  refine x_aload_1 dJ9_init_2_15 ?_
  refine x_callV0 dJ9_init_2_16 rfl okJ12_isLatin1 q926 q868 q870 (by first | assumption | (simp only [kd_pf, kd_al, nx_pf, nx_al, true_and, and_true]; (repeat (first | rw [if_neg (by omega)] | rw [if_pos (by omega)] | rw [if_pos trivial])); first | done | assumption | rfl)) am_k22 rfl (C_J12_isLatin1 hk hc (x_k1 ?_))
  refine x_if_eq (tgt := 41) dJ9_init_2_19 rfl (by omega) (fun c19 => ?_) (fun c19 => ?_)
  · exact absurd c19 (by decide)
  · refine x_aload_0 dJ9_init_2_22 ?_
    refine x_iconst dJ9_init_2_23 ?_
    refine x_putCB dJ9_init_2_24 fl947_21 rfl rfl (by first | assumption | (simp only [kd_pf, kd_al, nx_pf, nx_al, true_and, and_true]; (repeat (first | rw [if_neg (by omega)] | rw [if_pos (by omega)] | rw [if_pos trivial])); first | done | assumption | rfl)) (by omega) (by omega) ?_
    refine x_aload_0 dJ9_init_2_27 ?_
    refine x_aload_3 dJ9_init_2_28 ?_
    refine x_iconst dJ9_init_2_29 ?_
    refine x_iload4 dJ9_init_2_30 ?_
    refine x_callS3 dJ9_init_2_32 rfl okJ15_copyOfRange q927 q928 rfl (C_J15_copyOfRange (L := am_pf L s 1 0) hkv hlv hvn hnn (x_k1 ?_))
    refine x_putCR dJ9_init_2_35 fl946_21 rfl trivial rfl rfl (by show (if s = nx L then 101 else kd L s) = 21; rw [if_neg (by omega)]; exact hs) (by omega) ?_
    refine x_goto (tgt := 97) dJ9_init_2_38 rfl ?_
    refine x_ret dJ9_init_2_97 rfl ?_
    exact k
theorem C_J9_init (hs : kd L s = 21) (h2 : 200 ≤ s) (hk : kd L a = 22) (hv : h a 0 = v) (hkv : kd L v = 101) (hlv : ln L v = 16) (hvn : v < nx L) (hsn : s < nx L) (hc : h a 1 = 0) (hn : h a 3 = n) (hnn : 0 ≤ n ∧ n ≤ 8) (k : Q (.inl []) (am_pf (am_al (am_pf L s 1 0) 101 n) s 0 (nx L)) (am_cp h v (nx L) 0 0 n)) : am_C G mJ9_init (d + 7) [aR s, aR a] L h Q := by
  refine x_start okJ9_init rfl rfl rfl rfl ?_
  refine x_aload_0 dJ9_init_0 ?_
  refine x_aload_1 dJ9_init_1 ?_
  refine x_null dJ9_init_2 ?_
  refine x_callI2 dJ9_init_3 rfl okJ9_init_2 rfl rfl q909 q910 (by first | omega | (rw [kd_al, if_pos (by omega)]; decide)) rfl (C_J9_init_2 hs h2 hk hv hkv hlv hvn hsn hc hn hnn (x_k0 ?_))
  refine x_ret dJ9_init_6 rfl ?_
  exact k
theorem C_J13_toString (h2 : 200 ≤ nx L) (hk : kd L a = 22) (hv : h a 0 = v) (hkv : kd L v = 101) (hlv : ln L v = 16) (hvn : v < nx L) (han : a < nx L) (hc : h a 1 = 0) (hn : h a 3 = n) (hnn : 0 ≤ n ∧ n ≤ 8) (k : Q (.inl [aR (nx L)]) (am_pf (am_al (am_pf (am_al L 21 4) (nx L) 1 0) 101 n) (nx L) 0 (nx L + 1)) (am_cp h v (nx L + 1) 0 0 n)) : am_C G mJ13_toString (d + 8) [aR a] L h Q := by
  refine x_start okJ13_toString rfl rfl rfl rfl ?_
  have e1 : kd (am_al L 21 4) (nx L) = 21 := if_pos rfl
  have e2 : kd (am_al L 21 4) a = 22 := (if_neg (by omega)).trans hk
  have e3 : kd (am_al L 21 4) v = 101 := (if_neg (by omega)).trans hkv
  have e4 : ln (am_al L 21 4) v = 16 := (if_neg (by omega)).trans hlv
  have e5 : nx (am_al L 21 4) = nx L + 1 := rfl
  refine x_new dJ13_toString_0 am_k21 q904 q905 q137 rfl (fun z0 => ?_)
  refine x_dup dJ13_toString_3 rfl ?_
  refine x_aload_0 dJ13_toString_4 ?_
  refine x_callI1 dJ13_toString_5 rfl okJ9_init rfl rfl q906 q907 (by first | omega | (rw [kd_al, if_pos (by omega)]; decide)) rfl (C_J9_init (L := am_al L 21 4) e1 h2 e2 hv e3 e4 (by omega) (by omega) hc hn hnn (x_k0 ?_))
  refine x_aret dJ13_toString_8 rfl ?_
  exact k
/-- the name at token tk, as a new String -/
theorem C_X2_text {tk p e : Int} (hK : MkL L x) (hx : x + 1205 ≤ nx L) (hx0 : 200 ≤ x) (ht : 0 ≤ tk ∧ tk ≤ 2000) (hf : h (x + 6) tk = p) (hto : h (x + 7) tk = e) (hp : 0 ≤ p ∧ e ≤ 2000 ∧ 1 ≤ e - p ∧ e - p ≤ 8) (hb : ∀ i, p ≤ i → i < e → 97 ≤ h (x + 4) i ∧ h (x + 4) i ≤ 122) (k : ∀ L' h' r, NmL L' h' r (idN (fun i => h (x + 4) (p + i)) (e - p).toNat) → LB L L' (nx L) → nx L ≤ r → r < nx L' → nx L' = nx L + 4 → us L' = us L + 24 + (e - p) → (∀ a, a < nx L → h' a = h a) → Q (.inl [aR r]) L' h') : am_C G mX2_text (d + 9) [aR (x + 2), aI tk] L h Q := by
  refine x_start okX2_text rfl rfl rfl rfl ?_
  obtain ⟨b, hb0⟩ : ∃ b, nx L = b := ⟨_, rfl⟩
  rw [hb0] at hx k
  have hz : ∀ hh : am_H, ∀ Lh : am_L, Lh = L → hh = h → True := fun _ _ _ _ => trivial
  obtain ⟨L1, hL1⟩ : ∃ L1, L1 = am_al (am_al L 22 4) 101 16 := ⟨_, rfl⟩
  have n1 : nx L1 = b + 2 := by rw [hL1, nx_al, nx_al]; omega
  have u1 : us L1 = us L + 20 := by rw [hL1, us_al, us_al]; omega
  have lb1 : LB L L1 b := by
    rw [hL1]
    exact ((LB.rf L b).al (by omega)).al (by rw [nx_al]; omega)
  have kb : kd L1 b = 22 := by rw [hL1, kd_al, if_neg (by rw [nx_al]; omega), kd_al, if_pos (by omega)]
  have kv : kd L1 (b + 1) = 101 := by rw [hL1, kd_al, if_pos (by rw [nx_al]; omega)]
  have lv : ln L1 (b + 1) = 16 := by rw [hL1, ln_al, if_pos (by rw [nx_al]; omega)]
  have hK1 : MkL L1 x := hK.lb lb1 hx
  have hlp : ∀ hh : am_H, hh b 0 = b + 1 → hh b 1 = 0 → hh b 3 = 0 → (∀ a, a < b → hh a = h a) → am_X G mX2_text (d + 9) 15 [aR (x + 2), aI tk, aR b, aI p] [] L1 hh Q := by
    intro hh y0 y1 y2 y3
    have hend : p ≤ e := by omega
    rw [show (aI p : AV) = aI (p + 0) by rw [Int.add_zero]]
    refine x_for (e - p) (fun i h2 => h2 b 0 = b + 1 ∧ h2 b 1 = 0 ∧ h2 b 3 = i ∧ (∀ a, a < b → h2 a = h a) ∧ ∀ j, 0 ≤ j → j < i → h2 (b + 1) j = h (x + 4) (p + j)) (fun i h2 => am_X G mX2_text (d + 9) 15 [aR (x + 2), aI tk, aR b, aI (p + i)] [] L1 h2 Q) (fun i h2 g0 g1 hP ih => ?_) hh (by omega) ⟨y0, y1, y2, y3, fun j z0 z1 => by omega⟩
    obtain ⟨p0, p1, p2, p3, p4⟩ := hP
    refine x_iload_3 dX2_text_15 ?_
    refine x_aload_0 dX2_text_16 ?_
    refine x_getR dX2_text_17 fl268_2 rfl (by first | (exact MkL.k_tokens (by assumption)) | (first | assumption | (simp only [kd_pf, kd_al, nx_pf, nx_al, true_and, and_true]; (repeat (first | rw [if_neg (by omega)] | rw [if_pos (by omega)] | rw [if_pos trivial])); first | done | assumption | rfl))) (by first | (exact MkL.v_to (by assumption)) | (assumption)) ?_
    refine x_iload_1 dX2_text_20 ?_
    refine x_sald_ dX2_text_21 (by first | (exact MkL.k_to (by assumption)) | (first | assumption | (simp only [kd_pf, kd_al, nx_pf, nx_al, true_and, and_true]; (repeat (first | rw [if_neg (by omega)] | rw [if_pos (by omega)] | rw [if_pos trivial])); first | done | assumption | rfl))) (by first | (exact MkL.x_to (by assumption) (by omega) (by omega)) | (omega)) (fun r21 => ?_)
    simp (disch := omega) only [p3, hto] at r21 ⊢
    refine x_icmp_ge (tgt := 43) dX2_text_22 rfl (by omega) (by omega) (fun c22 => ?_) (fun c22 => ?_)
    · refine x_aload_2 dX2_text_43 ?_
      refine x_callV0 dX2_text_44 rfl okJ13_toString q900 q901 q902 (by first | assumption | (simp only [kd_pf, kd_al, nx_pf, nx_al, true_and, and_true]; (repeat (first | rw [if_neg (by omega)] | rw [if_pos (by omega)] | rw [if_pos trivial])); first | done | assumption | rfl)) am_k22 rfl (C_J13_toString (n := i) (by omega) kb p0 kv lv (by omega) (by omega) p1 p2 (by omega) (x_k1 ?_))
      refine x_aret dX2_text_47 rfl ?_
      have hi : i = e - p := by omega
      subst hi
      rw [n1]
      rw [show b + 2 + 1 = b + 3 by omega]
      have ll : LB L1 (am_pf (am_al (am_pf (am_al L1 21 4) (b + 2) 1 0) 101 (e - p)) (b + 2) 0 (b + 3)) (b + 2) := (((((LB.rf L1 (b + 2)).al (by omega)).pf (Int.le_refl _)).al (by rw [nx_pf, nx_al]; omega)).pf (Int.le_refl _))
      have nn : nx (am_pf (am_al (am_pf (am_al L1 21 4) (b + 2) 1 0) 101 (e - p)) (b + 2) 0 (b + 3)) = b + 4 := by rw [nx_pf, nx_al, nx_pf, nx_al, n1]; omega
      have f0 : fF (am_pf (am_al (am_pf (am_al L1 21 4) (b + 2) 1 0) 101 (e - p)) (b + 2) 0 (b + 3)) (b + 2) 0 = b + 3 := by rw [fF_pf, if_pos ⟨rfl, rfl⟩]
      have kn : kd (am_pf (am_al (am_pf (am_al L1 21 4) (b + 2) 1 0) 101 (e - p)) (b + 2) 0 (b + 3)) (b + 3) = 101 := by rw [kd_pf, kd_al, if_pos (by rw [nx_pf, nx_al]; omega)]
      have ln_ : ln (am_pf (am_al (am_pf (am_al L1 21 4) (b + 2) 1 0) 101 (e - p)) (b + 2) 0 (b + 3)) (b + 3) = e - p := by rw [ln_pf, ln_al, if_pos (by rw [nx_pf, nx_al]; omega)]
      have hc : ∀ j : Nat, j < (e - p).toNat → am_cp h2 (b + 1) (b + 3) 0 0 (e - p) (b + 3) j = h (x + 4) (p + j) := fun j z => by
        unfold am_cp
        rw [if_pos ⟨rfl, by omega, by omega⟩]
        rw [show (0 : Int) + ((j : Int) - 0) = j by omega]
        exact p4 j (by omega) (by omega)
      refine k _ _ (b + 2) ?_ (lb1.tr ll (by omega)) (by omega) (by omega) nn ?_ (fun a z => ?_)
      · refine ⟨?_, by omega, ?_, ?_, ?_, fun j z => ?_, ?_⟩
        · rw [kd_pf, kd_al, if_neg (by rw [nx_pf, nx_al]; omega), kd_pf, kd_al, if_pos (by omega)]
        · rw [fF_pf, if_neg (fun z => absurd z.2 (by decide)), fF_al, fF_pf, if_pos ⟨rfl, rfl⟩]
        · rw [f0]; exact kn
        · rw [f0, ln_]; omega
        · rw [f0, ln_] at z
          rw [f0, hc j z]
          exact hb (p + j) (by omega) (by omega)
        · rw [f0, ln_]
          exact (idN_cg _ hc).symm
      · rw [us_pf, us_al, us_pf, us_al, u1]; omega
      · rw [← p3 a z]
        funext j
        unfold am_cp
        rw [if_neg (by omega)]
    · refine x_aload_2 dX2_text_25 ?_
      refine x_aload_0 dX2_text_26 ?_
      refine x_getR dX2_text_27 fl260_2 rfl (by first | (exact MkL.k_tokens (by assumption)) | (first | assumption | (simp only [kd_pf, kd_al, nx_pf, nx_al, true_and, and_true]; (repeat (first | rw [if_neg (by omega)] | rw [if_pos (by omega)] | rw [if_pos trivial])); first | done | assumption | rfl))) (by first | (exact MkL.v_tape (by assumption)) | (assumption)) ?_
      refine x_iload_3 dX2_text_30 ?_
      refine x_bald_ dX2_text_31 (by first | (exact MkL.k_tape (by assumption)) | (first | assumption | (simp only [kd_pf, kd_al, nx_pf, nx_al, true_and, and_true]; (repeat (first | rw [if_neg (by omega)] | rw [if_pos (by omega)] | rw [if_pos trivial])); first | done | assumption | rfl))) (by first | (exact MkL.x_tape (by assumption) (by omega) (by omega)) | (omega)) (fun r31 => ?_)
      simp (disch := omega) only [p3] at r31 ⊢
      have hbb := hb (p + i) (by omega) (by omega)
      refine x_i2c dX2_text_32 (by omega) ?_
      refine x_callV1 dX2_text_33 rfl okJ13_append q829 q830 q831 (by first | assumption | (simp only [kd_pf, kd_al, nx_pf, nx_al, true_and, and_true]; (repeat (first | rw [if_neg (by omega)] | rw [if_pos (by omega)] | rw [if_pos trivial])); first | done | assumption | rfl)) am_k22 rfl (C_J13_append (v := b + 1) (n := i) kb p0 kv lv p1 p2 (by omega) (by omega) (x_k1 ?_))
      refine x_pop dX2_text_36 rfl ?_
      refine x_iinc3 dX2_text_37 rfl ?_
      refine x_goto (tgt := 15) dX2_text_40 rfl ?_
      rw [Int.add_assoc]
      refine ih _ (by omega) ⟨?_, ?_, ?_, fun a z => ?_, fun j z0 z1 => ?_⟩
      · rw [am_st_o (by omega), am_st_i (by omega)]; exact p0
      · rw [am_st_o (by omega), am_st_i (by omega)]; exact p1
      · rw [am_st_o (by omega), am_st_s]
      · rw [am_st_o (by omega), am_st_o (by omega)]; exact p3 a z
      · rw [am_st_at]
        by_cases q : j = i
        · subst q
          rw [if_pos ⟨rfl, rfl⟩]
        · rw [if_neg (fun z => q z.2), am_st_o (by omega)]
          exact p4 j z0 (by omega)
  refine x_new dX2_text_0 am_k22 q799 q800 q142 rfl (fun z0 => ?_)
  rw [hb0] at z0 ⊢
  have hz1 := fun j => (z0 j).1
  refine x_dup dX2_text_3 rfl ?_
  refine x_callI0 dX2_text_4 rfl okJ13_init rfl rfl q801 q802 (by first | omega | (rw [kd_al, if_pos (by omega)]; decide)) rfl (C_J13_init (L := am_al L 22 4) (a := b) (by rw [kd_al, if_pos (by omega)]) (by rw [nx_al]; omega) (x_k0 ?_))
  rw [show nx (am_al L 22 4) = b + 1 by rw [nx_al]; omega, ← hL1]
  refine x_astore_2 dX2_text_7 rfl ?_
  refine x_aload_0 dX2_text_8 ?_
  refine x_getR dX2_text_9 fl266_2 rfl (by first | (exact MkL.k_tokens (by assumption)) | (first | assumption | (simp only [kd_pf, kd_al, nx_pf, nx_al, true_and, and_true]; (repeat (first | rw [if_neg (by omega)] | rw [if_pos (by omega)] | rw [if_pos trivial])); first | done | assumption | rfl))) (by first | (exact MkL.v_from (by assumption)) | (assumption)) ?_
  refine x_iload_1 dX2_text_12 ?_
  refine x_sald_ dX2_text_13 (by first | (exact MkL.k_from (by assumption)) | (first | assumption | (simp only [kd_pf, kd_al, nx_pf, nx_al, true_and, and_true]; (repeat (first | rw [if_neg (by omega)] | rw [if_pos (by omega)] | rw [if_pos trivial])); first | done | assumption | rfl))) (by first | (exact MkL.x_from (by assumption) (by omega) (by omega)) | (omega)) (fun r13 => ?_)
  simp (disch := omega) only [am_st_o, hf] at r13 ⊢
  refine x_istore_3 dX2_text_14 rfl ?_
  refine hlp _ ?_ ?_ ?_ (fun a z => ?_)
  · rw [am_st_i (by omega), am_st_s]
  · rw [am_st_s]
  · rw [am_st_i (by omega), am_st_i (by omega)]; exact hz1 3
  · rw [am_st_o (by omega), am_st_o (by omega)]
theorem C_X2_number {tk p e : Int} (hK : MkL L x) (ht : 0 ≤ tk ∧ tk ≤ 2000) (hf : h (x + 6) tk = p) (hto : h (x + 7) tk = e) (hp : 0 ≤ p ∧ e ≤ 2000 ∧ 1 ≤ e - p ∧ e - p ≤ 4) (hb : ∀ i, p ≤ i → i < e → 48 ≤ h (x + 4) i ∧ h (x + 4) i ≤ 57) (k : Q (.inl [aI (numN (fun i => h (x + 4) (p + i)) (e - p).toNat)]) L h) : am_C G mX2_number (d + 1) [aR (x + 2), aI tk] L h Q := by
  refine x_start okX2_number rfl rfl rfl rfl ?_
  have hlp : am_X G mX2_number (d + 1) 9 [aR (x + 2), aI tk, aI 0, aI p] [] L h Q := by
    rw [show (aI p : AV) = aI (p + 0) by rw [Int.add_zero]]
    refine x_up0 (e - p) (fun i => 0 ≤ i → i ≤ e - p → am_X G mX2_number (d + 1) 9 [aR (x + 2), aI tk, aI (numN (fun i => h (x + 4) (p + i)) i.toNat), aI (p + i)] [] L h Q) (fun i ih g0 g1 => ?_) 0 (by omega) (by omega)
    have hbd := numN_bd (f := fun i => h (x + 4) (p + i)) i.toNat (fun j z => hb (p + j) (by omega) (by omega))
    have hpw : (10 : Int) ^ i.toNat ≤ 10000 := by
      have : i.toNat = 0 ∨ i.toNat = 1 ∨ i.toNat = 2 ∨ i.toNat = 3 ∨ i.toNat = 4 := by omega
      rcases this with q | q | q | q | q <;> rw [q] <;> decide
    refine x_iload_3 dX2_number_9 ?_
    refine x_aload_0 dX2_number_10 ?_
    refine x_getR dX2_number_11 fl268_2 rfl (by first | (exact MkL.k_tokens (by assumption)) | (first | assumption | (simp only [kd_pf, kd_al, nx_pf, nx_al, true_and, and_true]; (repeat (first | rw [if_neg (by omega)] | rw [if_pos (by omega)] | rw [if_pos trivial])); first | done | assumption | rfl))) (by first | (exact MkL.v_to (by assumption)) | (assumption)) ?_
    refine x_iload_1 dX2_number_14 ?_
    refine x_sald_ dX2_number_15 (by first | (exact MkL.k_to (by assumption)) | (first | assumption | (simp only [kd_pf, kd_al, nx_pf, nx_al, true_and, and_true]; (repeat (first | rw [if_neg (by omega)] | rw [if_pos (by omega)] | rw [if_pos trivial])); first | done | assumption | rfl))) (by first | (exact MkL.x_to (by assumption) (by omega) (by omega)) | (omega)) (fun r15 => ?_)
    simp (disch := omega) only [hto] at r15 ⊢
    refine x_icmp_ge (tgt := 40) dX2_number_16 rfl (by omega) (by omega) (fun c16 => ?_) (fun c16 => ?_)
    · refine x_iload_2 dX2_number_40 ?_
      refine x_iret dX2_number_41 rfl ?_
      rw [show i = e - p by omega]
      exact k
    · refine x_bipush dX2_number_19 rfl ?_
      refine x_iload_2 dX2_number_21 ?_
      refine x_imul dX2_number_22 ?_
      refine x_aload_0 dX2_number_23 ?_
      refine x_getR dX2_number_24 fl260_2 rfl (by first | (exact MkL.k_tokens (by assumption)) | (first | assumption | (simp only [kd_pf, kd_al, nx_pf, nx_al, true_and, and_true]; (repeat (first | rw [if_neg (by omega)] | rw [if_pos (by omega)] | rw [if_pos trivial])); first | done | assumption | rfl))) (by first | (exact MkL.v_tape (by assumption)) | (assumption)) ?_
      refine x_iload_3 dX2_number_27 ?_
      refine x_bald_ dX2_number_28 (by first | (exact MkL.k_tape (by assumption)) | (first | assumption | (simp only [kd_pf, kd_al, nx_pf, nx_al, true_and, and_true]; (repeat (first | rw [if_neg (by omega)] | rw [if_pos (by omega)] | rw [if_pos trivial])); first | done | assumption | rfl))) (by first | (exact MkL.x_tape (by assumption) (by omega) (by omega)) | (omega)) (fun r28 => ?_)
      have hbb := hb (p + i) (by omega) (by omega)
      refine x_iadd dX2_number_29 ?_
      refine x_bipush dX2_number_30 rfl ?_
      refine x_isub dX2_number_32 ?_
      refine x_istore_2 dX2_number_33 rfl ?_
      refine x_iinc3 dX2_number_34 rfl ?_
      refine x_goto (tgt := 9) dX2_number_37 rfl ?_
      rw [Int.add_assoc]
      have e1 : 10 * numN (fun i => h (x + 4) (p + i)) i.toNat + h (x + 4) (p + i) - 48 = numN (fun i => h (x + 4) (p + i)) (i + 1).toNat := by
        rw [show (i + 1).toNat = i.toNat + 1 by omega]
        show _ = 10 * numN (fun i => h (x + 4) (p + i)) i.toNat + (h (x + 4) (p + ((i.toNat : Nat) : Int)) - 48)
        rw [show ((i.toNat : Nat) : Int) = i by omega]
        omega
      rw [e1]
      exact ih (by omega) (by omega) (by omega)
  refine x_iconst dX2_number_0 ?_
  refine x_istore_2 dX2_number_1 rfl ?_
  refine x_aload_0 dX2_number_2 ?_
  refine x_getR dX2_number_3 fl266_2 rfl (by first | (exact MkL.k_tokens (by assumption)) | (first | assumption | (simp only [kd_pf, kd_al, nx_pf, nx_al, true_and, and_true]; (repeat (first | rw [if_neg (by omega)] | rw [if_pos (by omega)] | rw [if_pos trivial])); first | done | assumption | rfl))) (by first | (exact MkL.v_from (by assumption)) | (assumption)) ?_
  refine x_iload_1 dX2_number_6 ?_
  refine x_sald_ dX2_number_7 (by first | (exact MkL.k_from (by assumption)) | (first | assumption | (simp only [kd_pf, kd_al, nx_pf, nx_al, true_and, and_true]; (repeat (first | rw [if_neg (by omega)] | rw [if_pos (by omega)] | rw [if_pos trivial])); first | done | assumption | rfl))) (by first | (exact MkL.x_from (by assumption) (by omega) (by omega)) | (omega)) (fun r7 => ?_)
  simp (disch := omega) only [hf] at r7 ⊢
  refine x_istore_3 dX2_number_8 rfl ?_
  exact hlp
end TEXT
