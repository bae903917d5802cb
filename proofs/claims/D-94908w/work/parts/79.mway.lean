/-! WAYS by all errands: the twin's side -/
set_option maxRecDepth 100000
section MWAY
variable {G : am_G} {d : Nat} {L : am_L} {h h' : am_H} {Q : am_O → am_L → am_H → Prop} {x o s t : Int} {T : Txt} {S : Row} {b q : Int}
theorem srI_bd (A : Int → Int) : ∀ n : Nat, -1 ≤ srI A n ∧ srI A n < n
  | 0 => ⟨by show (-1 : Int) ≤ -1; decide, by show (-1 : Int) < ((0 : Nat) : Int); decide⟩
  | n + 1 => by
    have := srI_bd A n
    unfold srI
    split <;> omega
set_option maxHeartbeats 8000000 in
theorem C_X13_nextOrder {n : Nat} {A : Int → Int} (hL : MdL L o) (hn : n ≤ 6) (hA : ∀ k, 0 ≤ k → k < (n : Int) → h (o + 43) k = A k) (kt : ∀ B, nxA n A = some B → ∀ h', (∀ a, a ≠ (o + 43) → h' a = h a) → (∀ k, 0 ≤ k → k < (n : Int) → h' (o + 43) k = B k) → Q (.inl [aI 1]) L h') (kf : nxA n A = none → Q (.inl [aI 0]) L h) : am_C G mX13_nextOrder (d + 1) [aR o, aI n] L h Q := by
  have kf' : srI A (n - 1) < 0 → Q (.inl [aI 0]) L h := fun z => kf (if_pos z)
  have H37 : ∀ i : Nat, (i : Int) + 1 < n → srI A (n - 1) = i → ¬ A (i + 1) < A i → am_X G mX13_nextOrder (d + 1) 37 [aR o, aI n, aI i, aU, aU, aU, aU] [] L h Q := fun i hi hs hle => by
    refine x_iload_1 dX13_nextOrder_37 ?_
    refine x_iconst dX13_nextOrder_38 ?_
    refine x_isub dX13_nextOrder_39 ?_
    refine x_istore_3 dX13_nextOrder_40 rfl ?_
    skip
    suffices HJ : ∀ c : Nat, c ≤ n → (i : Int) + 2 ≤ c → srJ A (A i) n = srJ A (A i) c → am_X G mX13_nextOrder (d + 1) 41 [aR o, aI n, aI i, aI ((c : Int) - 1), aU, aU, aU] [] L h Q from HJ n (Nat.le_refl _) (by omega) rfl
    intro c
    induction c with
    | zero => intro _ z; omega
    | succ c ih =>
      intro h1 h2 h3
      have e1 : srJ A (A i) (c + 1) = if A c < A i then srJ A (A i) c else c := rfl
      rw [show (((c + 1 : Nat) : Int)) - 1 = (c : Int) by omega]
      refine x_aload_0 dX13_nextOrder_41 ?_
      refine x_getR dX13_nextOrder_42 fl1636_13 rfl (by first | (exact MdL.k0 (by assumption)) | (assumption)) (by first | (exact MdL.v_order (by assumption)) | (assumption)) ?_
      refine x_iload_3 dX13_nextOrder_45 ?_
      refine x_iald_ dX13_nextOrder_46 (by first | (exact MdL.k_order (by assumption)) | (assumption)) (by first | (exact MdL.x_order (by assumption) (by omega) (by omega)) | (omega)) (fun r46 => ?_)
      simp (disch := omega) only [(hA i (by omega) (by omega)), (hA c (by omega) (by omega))] at r46 ⊢
      refine x_aload_0 dX13_nextOrder_47 ?_
      refine x_getR dX13_nextOrder_48 fl1636_13 rfl (by first | (exact MdL.k0 (by assumption)) | (assumption)) (by first | (exact MdL.v_order (by assumption)) | (assumption)) ?_
      refine x_iload_2 dX13_nextOrder_51 ?_
      refine x_iald_ dX13_nextOrder_52 (by first | (exact MdL.k_order (by assumption)) | (assumption)) (by first | (exact MdL.x_order (by assumption) (by omega) (by omega)) | (omega)) (fun r52 => ?_)
      simp (disch := omega) only [(hA i (by omega) (by omega)), (hA c (by omega) (by omega))] at r52 ⊢
      refine x_icmp_ge (tgt := 62) dX13_nextOrder_53 rfl (by omega) (by omega) (fun c53 => ?_) (fun c53 => ?_)
      · rw [if_neg (by omega)] at e1
        have hj : srJ A (A i) n = c := by rw [h3, e1]
        have eN : nxA n A = some (rvA (up1 (up1 A i (A c)) c (A i)) 6 (i + 1) ((n : Int) - 1)) := by
          unfold nxA
          rw [hs, if_neg (by omega), hj]
        refine x_aload_0 dX13_nextOrder_62 ?_
        refine x_getR dX13_nextOrder_63 fl1636_13 rfl (by first | (exact MdL.k0 (by assumption)) | (assumption)) (by first | (exact MdL.v_order (by assumption)) | (assumption)) ?_
        refine x_iload_2 dX13_nextOrder_66 ?_
        refine x_iald_ dX13_nextOrder_67 (by first | (exact MdL.k_order (by assumption)) | (assumption)) (by first | (exact MdL.x_order (by assumption) (by omega) (by omega)) | (omega)) (fun r67 => ?_)
        simp (disch := omega) only [(hA i (by omega) (by omega)), (hA c (by omega) (by omega))] at r67 ⊢
        refine x_istore4 dX13_nextOrder_68 rfl ?_
        refine x_aload_0 dX13_nextOrder_70 ?_
        refine x_getR dX13_nextOrder_71 fl1636_13 rfl (by first | (exact MdL.k0 (by assumption)) | (assumption)) (by first | (exact MdL.v_order (by assumption)) | (assumption)) ?_
        refine x_iload_2 dX13_nextOrder_74 ?_
        refine x_aload_0 dX13_nextOrder_75 ?_
        refine x_getR dX13_nextOrder_76 fl1636_13 rfl (by first | (exact MdL.k0 (by assumption)) | (assumption)) (by first | (exact MdL.v_order (by assumption)) | (assumption)) ?_
        refine x_iload_3 dX13_nextOrder_79 ?_
        refine x_iald_ dX13_nextOrder_80 (by first | (exact MdL.k_order (by assumption)) | (assumption)) (by first | (exact MdL.x_order (by assumption) (by omega) (by omega)) | (omega)) (fun r80 => ?_)
        simp (disch := omega) only [(hA i (by omega) (by omega)), (hA c (by omega) (by omega))] at r80 ⊢
        refine x_iast_ dX13_nextOrder_81 (by first | (exact MdL.k_order (by assumption)) | (assumption)) (by first | (exact MdL.x_order (by assumption) (by omega) (by omega)) | (omega)) (by omega) ?_
        refine x_aload_0 dX13_nextOrder_82 ?_
        refine x_getR dX13_nextOrder_83 fl1636_13 rfl (by first | (exact MdL.k0 (by assumption)) | (assumption)) (by first | (exact MdL.v_order (by assumption)) | (assumption)) ?_
        refine x_iload_3 dX13_nextOrder_86 ?_
        refine x_iload4 dX13_nextOrder_87 ?_
        refine x_iast_ dX13_nextOrder_89 (by first | (exact MdL.k_order (by assumption)) | (assumption)) (by first | (exact MdL.x_order (by assumption) (by omega) (by omega)) | (omega)) (by omega) ?_
        refine x_iload_2 dX13_nextOrder_90 ?_
        refine x_iconst dX13_nextOrder_91 ?_
        refine x_iadd dX13_nextOrder_92 ?_
        refine x_istore5 dX13_nextOrder_93 rfl ?_
        refine x_iload_1 dX13_nextOrder_95 ?_
        refine x_iconst dX13_nextOrder_96 ?_
        refine x_isub dX13_nextOrder_97 ?_
        refine x_istore6 dX13_nextOrder_98 rfl ?_
        suffices HR : ∀ (r : Nat) (a b : Int) (B : Int → Int) (hh : am_H) (w4 : AV), (0 ≤ a ∧ a ≤ n) → (-1 ≤ b ∧ b < n) → b - a < 2 * (r : Int) → (∀ k, 0 ≤ k → k < (n : Int) → hh (o + 43) k = B k) → (∀ y, y ≠ (o + 43) → hh y = h y) → nxA n A = some (rvA B r a b) → am_X G mX13_nextOrder (d + 1) 100 [aR o, aI n, aI i, aI c, w4, aI a, aI b] [] L hh Q from HR 6 (i + 1) ((n : Int) - 1) _ _ _ (by omega) (by omega) (by omega) (fun k z0 z1 => by
          rw [am_st_at]
          unfold up1
          by_cases ek : k = c
          · rw [if_pos ⟨rfl, ek⟩, if_pos ek]
          · rw [if_neg (fun z => ek z.2), if_neg ek, am_st_at]
            by_cases ek2 : k = i
            · rw [if_pos ⟨rfl, ek2⟩, if_pos ek2]
            · rw [if_neg (fun z => ek2 z.2), if_neg ek2]
              exact hA k z0 z1) (fun y z => by rw [am_st_o z, am_st_o z]) eN
        intro r
        induction r with
        | zero =>
          intro a b B hh w4 z1 z2 z3 z4 z5 z6
          refine x_iload5 dX13_nextOrder_100 ?_
          refine x_iload6 dX13_nextOrder_102 ?_
          refine x_icmp_ge (tgt := 148) dX13_nextOrder_104 rfl (by omega) (by omega) (fun c104 => ?_) (fun c104 => ?_)
          · refine x_iconst dX13_nextOrder_148 ?_
            refine x_zret dX13_nextOrder_149 rfl (by omega) ?_
            exact kt B z6 hh z5 z4
          · exfalso; omega
        | succ r ihr =>
          intro a b B hh w4 z1 z2 z3 z4 z5 z6
          unfold rvA at z6
          refine x_iload5 dX13_nextOrder_100 ?_
          refine x_iload6 dX13_nextOrder_102 ?_
          refine x_icmp_ge (tgt := 148) dX13_nextOrder_104 rfl (by omega) (by omega) (fun c104 => ?_) (fun c104 => ?_)
          · refine x_iconst dX13_nextOrder_148 ?_
            refine x_zret dX13_nextOrder_149 rfl (by omega) ?_
            rw [if_neg (by omega)] at z6
            exact kt B z6 hh z5 z4
          · rw [if_pos (by omega)] at z6
            refine x_aload_0 dX13_nextOrder_107 ?_
            refine x_getR dX13_nextOrder_108 fl1636_13 rfl (by first | (exact MdL.k0 (by assumption)) | (assumption)) (by first | (exact MdL.v_order (by assumption)) | (assumption)) ?_
            refine x_iload5 dX13_nextOrder_111 ?_
            refine x_iald_ dX13_nextOrder_113 (by first | (exact MdL.k_order (by assumption)) | (assumption)) (by first | (exact MdL.x_order (by assumption) (by omega) (by omega)) | (omega)) (fun r113 => ?_)
            simp (disch := omega) only [(z4 a (by omega) (by omega)), (z4 b (by omega) (by omega))] at r113 ⊢
            refine x_istore4 dX13_nextOrder_114 rfl ?_
            refine x_aload_0 dX13_nextOrder_116 ?_
            refine x_getR dX13_nextOrder_117 fl1636_13 rfl (by first | (exact MdL.k0 (by assumption)) | (assumption)) (by first | (exact MdL.v_order (by assumption)) | (assumption)) ?_
            refine x_iload5 dX13_nextOrder_120 ?_
            refine x_aload_0 dX13_nextOrder_122 ?_
            refine x_getR dX13_nextOrder_123 fl1636_13 rfl (by first | (exact MdL.k0 (by assumption)) | (assumption)) (by first | (exact MdL.v_order (by assumption)) | (assumption)) ?_
            refine x_iload6 dX13_nextOrder_126 ?_
            refine x_iald_ dX13_nextOrder_128 (by first | (exact MdL.k_order (by assumption)) | (assumption)) (by first | (exact MdL.x_order (by assumption) (by omega) (by omega)) | (omega)) (fun r128 => ?_)
            simp (disch := omega) only [(z4 a (by omega) (by omega)), (z4 b (by omega) (by omega))] at r128 ⊢
            refine x_iast_ dX13_nextOrder_129 (by first | (exact MdL.k_order (by assumption)) | (assumption)) (by first | (exact MdL.x_order (by assumption) (by omega) (by omega)) | (omega)) (by omega) ?_
            refine x_aload_0 dX13_nextOrder_130 ?_
            refine x_getR dX13_nextOrder_131 fl1636_13 rfl (by first | (exact MdL.k0 (by assumption)) | (assumption)) (by first | (exact MdL.v_order (by assumption)) | (assumption)) ?_
            refine x_iload6 dX13_nextOrder_134 ?_
            refine x_iload4 dX13_nextOrder_136 ?_
            refine x_iast_ dX13_nextOrder_138 (by first | (exact MdL.k_order (by assumption)) | (assumption)) (by first | (exact MdL.x_order (by assumption) (by omega) (by omega)) | (omega)) (by omega) ?_
            refine x_iinc5 dX13_nextOrder_139 rfl ?_
            refine x_iinc6 dX13_nextOrder_142 rfl ?_
            refine x_goto (tgt := 100) dX13_nextOrder_145 rfl ?_
            refine ihr (a + 1) (b - 1) _ _ _ (by omega) (by omega) (by omega) (fun k x0 x1 => ?_) (fun y z => by rw [am_st_o z, am_st_o z]; exact z5 y z) z6
            rw [am_st_at]
            unfold up1
            by_cases ek : k = b
            · rw [if_pos ⟨rfl, ek⟩, if_pos ek]
            · rw [if_neg (fun z => ek z.2), if_neg ek, am_st_at]
              by_cases ek2 : k = a
              · rw [if_pos ⟨rfl, ek2⟩, if_pos ek2]
              · rw [if_neg (fun z => ek2 z.2), if_neg ek2]
                exact z4 k x0 x1
      · refine x_iinc3 dX13_nextOrder_56 rfl ?_
        refine x_goto (tgt := 41) dX13_nextOrder_59 rfl ?_
        rw [if_pos (by omega)] at e1
        by_cases ec : c = i + 1
        · exfalso
          rw [ec] at c53
          apply hle
          rw [show ((i : Int) + 1) = ((i + 1 : Nat) : Int) by omega]
          omega
        · exact ih (by omega) (by omega) (by rw [h3, e1])
  refine x_start okX13_nextOrder rfl rfl rfl rfl ?_
  refine x_iload_1 dX13_nextOrder_0 ?_
  refine x_iconst dX13_nextOrder_1 ?_
  refine x_isub dX13_nextOrder_2 ?_
  refine x_istore_2 dX13_nextOrder_3 rfl ?_
  by_cases h0 : n = 0
  · rw [h0] at kf' ⊢
    refine x_iload_2 dX13_nextOrder_4 ?_
    refine x_if_lt (tgt := 31) dX13_nextOrder_5 rfl (by omega) (fun c5 => ?_) (fun c5 => ?_)
    · refine x_iload_2 dX13_nextOrder_31 ?_
      refine x_if_ge (tgt := 37) dX13_nextOrder_32 rfl (by omega) (fun c32 => ?_) (fun c32 => ?_)
      · exfalso; omega
      · refine x_iconst dX13_nextOrder_35 ?_
        refine x_zret dX13_nextOrder_36 rfl (by omega) ?_
        exact kf' (by show (-1 : Int) < 0; decide)
    · exfalso; omega
  · suffices HI : ∀ c : Nat, c + 1 ≤ n → srI A (n - 1) = srI A c → am_X G mX13_nextOrder (d + 1) 4 [aR o, aI n, aI ((c : Int) - 1), aU, aU, aU, aU] [] L h Q by
      have := HI (n - 1) (by omega) rfl
      rw [show (((n - 1 : Nat) : Int)) - 1 = (n : Int) - 2 by omega] at this
      exact this
    intro c
    induction c with
    | zero =>
      intro h1 h2
      refine x_iload_2 dX13_nextOrder_4 ?_
      refine x_if_lt (tgt := 31) dX13_nextOrder_5 rfl (by omega) (fun c5 => ?_) (fun c5 => ?_)
      · refine x_iload_2 dX13_nextOrder_31 ?_
        refine x_if_ge (tgt := 37) dX13_nextOrder_32 rfl (by omega) (fun c32 => ?_) (fun c32 => ?_)
        · exfalso; omega
        · refine x_iconst dX13_nextOrder_35 ?_
          refine x_zret dX13_nextOrder_36 rfl (by omega) ?_
          refine kf' ?_
          rw [h2]
          show (-1 : Int) < 0
          decide
      · exfalso; omega
    | succ c ih =>
      intro h1 h2
      have e1 : srI A (c + 1) = if A (c + 1) < A c then srI A c else c := rfl
      rw [show (((c + 1 : Nat) : Int)) - 1 = (c : Int) by omega]
      refine x_iload_2 dX13_nextOrder_4 ?_
      refine x_if_lt (tgt := 31) dX13_nextOrder_5 rfl (by omega) (fun c5 => ?_) (fun c5 => ?_)
      · have hge : ¬ A ((c : Int) + 1) < A c := by omega
        rw [if_neg hge] at e1
        refine x_iload_2 dX13_nextOrder_31 ?_
        refine x_if_ge (tgt := 37) dX13_nextOrder_32 rfl (by omega) (fun c32 => ?_) (fun c32 => ?_)
        · exact H37 c (by omega) (by rw [h2, e1]) hge
        · exfalso; omega
      · refine x_aload_0 dX13_nextOrder_8 ?_
        refine x_getR dX13_nextOrder_9 fl1636_13 rfl (by first | (exact MdL.k0 (by assumption)) | (assumption)) (by first | (exact MdL.v_order (by assumption)) | (assumption)) ?_
        refine x_iload_2 dX13_nextOrder_12 ?_
        refine x_iald_ dX13_nextOrder_13 (by first | (exact MdL.k_order (by assumption)) | (assumption)) (by first | (exact MdL.x_order (by assumption) (by omega) (by omega)) | (omega)) (fun r13 => ?_)
        simp (disch := omega) only [(hA c (by omega) (by omega)), (hA ((c : Int) + 1) (by omega) (by omega))] at r13 ⊢
        refine x_aload_0 dX13_nextOrder_14 ?_
        refine x_getR dX13_nextOrder_15 fl1636_13 rfl (by first | (exact MdL.k0 (by assumption)) | (assumption)) (by first | (exact MdL.v_order (by assumption)) | (assumption)) ?_
        refine x_iload_2 dX13_nextOrder_18 ?_
        refine x_iconst dX13_nextOrder_19 ?_
        refine x_iadd dX13_nextOrder_20 ?_
        refine x_iald_ dX13_nextOrder_21 (by first | (exact MdL.k_order (by assumption)) | (assumption)) (by first | (exact MdL.x_order (by assumption) (by omega) (by omega)) | (omega)) (fun r21 => ?_)
        simp (disch := omega) only [(hA c (by omega) (by omega)), (hA ((c : Int) + 1) (by omega) (by omega))] at r21 ⊢
        refine x_icmp_le (tgt := 31) dX13_nextOrder_22 rfl (by omega) (by omega) (fun c22 => ?_) (fun c22 => ?_)
        · have hge : ¬ A ((c : Int) + 1) < A c := by omega
          rw [if_neg hge] at e1
          refine x_iload_2 dX13_nextOrder_31 ?_
          refine x_if_ge (tgt := 37) dX13_nextOrder_32 rfl (by omega) (fun c32 => ?_) (fun c32 => ?_)
          · exact H37 c (by omega) (by rw [h2, e1]) hge
          · exfalso; omega
        · refine x_iinc2 dX13_nextOrder_25 rfl ?_
          refine x_goto (tgt := 4) dX13_nextOrder_28 rfl ?_
          rw [if_pos (by omega)] at e1
          exact ih (by omega) (by rw [h2, e1])
/-- nothing but the orders was written -/
def FrU (h h' : am_H) (o : Int) : Prop := ∀ a, a ≠ (o + 43) → a ≠ (o + 44) → h' a = h a
theorem FrU.rf (h : am_H) (o : Int) : FrU h h o := fun _ _ _ => rfl
theorem FrU.tr {h1 h2 : am_H} (a : FrU h h1 o) (b : FrU h1 h2 o) : FrU h h2 o := fun y z z' => (b y z z').trans (a y z z')
theorem FrU.w (a : FrU h h' o) : FrW h h' o := fun y i z => by rw [a y (by omega) (by omega)]
theorem FrU.arr {a i v : Int} (ha : a = (o + 43) ∨ a = (o + 44)) : FrU h (am_st h a i v) o := fun y z z' => am_st_o (by omega)
/-- the order's array holds p -/
def ordP (f : Int → Int) (n : Nat) (p : List Int) : Prop := ∀ k, 0 ≤ k → k < (n : Int) → f k = lf p k
set_option maxHeartbeats 16000000 in
theorem C_X13_wayFrom {m u v : Int} (hM : MdT L h o s T) (hT : TxtI T) (hm : 0 ≤ m ∧ m < tM T) (hu : 0 ≤ u ∧ u ≤ 11) (hv : 0 ≤ v ∧ v ≤ 11) (k : ∀ h', FrU h h' o → (∀ i, 0 ≤ i → i < tE T m → h' (o + 44) i = lf (wyR T m u v).2 i) → Q (.inl [aI (wyR T m u v).1]) L h') : am_C G mX13_wayFrom (d + 3) [aR o, aI m, aI u, aI v] L h Q := by
  have hL := hM.1
  have hs := hM.2.1
  have hlv := hM.2.2.1
  have h7 := hT.1
  obtain ⟨-, -, -, ee, exy, -⟩ := hM.2.2.2.2.2.2.2.2.1 m hm.1 hm.2
  obtain ⟨hE, he, hx⟩ := erd_n hT hm
  obtain ⟨-, n64, n1⟩ := two_pw hE
  obtain ⟨n, hn⟩ : ∃ n : Nat, tE T m = n := ⟨(tE T m).toNat, by omega⟩
  have hn6 : n ≤ 6 := by omega
  have hch := List.all_eq_true.mp tb_ch n (List.mem_range.mpr (by omega))
  have hok := List.all_eq_true.mp tb_ok n (List.mem_range.mpr (by omega))
  have ebs := bs_wyV (ex := tEX T m) (ey := tEY T m) (e := n) hn6 64 (2 ^ n - 1) u v (by have := Nat.one_le_two_pow (n := n); omega) (by have := Nat.one_le_two_pow (n := n); rw [show n = (tE T m).toNat by omega]; omega)
  have eW : wyR T m u v = wyV (tEX T m) (tEY T m) n 64 (2 ^ n - 1) u v := by
    unfold wyR
    rw [show (tE T m).toNat = n by omega]
  rw [← eW] at ebs
  have ebs' : bsL (pth (tEX T m) (tEY T m) u v) (-1, []) (allP n) = wyR T m u v := ebs
  rw [hn] at ee exy k
  obtain ⟨p0, P0, hP0⟩ : ∃ p0 P0, allP n = p0 :: P0 := by
    cases hz : allP n with
    | nil => rw [hz] at hch; cases hch
    | cons a r => exact ⟨a, r, rfl⟩
  rw [hP0] at hch hok ebs'
  obtain ⟨hok1, hid⟩ := Bool.and_eq_true_iff.mp hok
  have hp0 : p0 = idP n := Option.some.inj (of_decide_eq_true hid)
  have lf0 : ∀ k, 0 ≤ k → k < (n : Int) → lf (idP n) k = k := fun k z0 z1 => by
    unfold lf idP
    rw [List.getD_eq_getElem?_getD, List.getElem?_map, List.getElem?_range (by omega)]
    show ((k.toNat : Nat) : Int) = k
    omega
  have H47 : ∀ (P : List (List Int)) (p : List Int) (b : Int × List Int) (hh : am_H) (w7 w8 w9 w10 w11 : AV), chB n (p :: P) = true → okB n (p :: P) = true → FrU h hh o → ordP (hh (o + 43)) n p → bsL (pth (tEX T m) (tEY T m) u v) b (p :: P) = wyR T m u v → (0 ≤ b.1 → ∀ i, 0 ≤ i → i < (n : Int) → hh (o + 44) i = lf b.2 i) → (-1 ≤ b.1 ∧ b.1 ≤ 2000) → am_X G mX13_wayFrom (d + 3) 47 [aR o, aI m, aI u, aI v, aI n, aI b.1, aI 1, w7, w8, w9, w10, w11] [] L hh Q := by
    have one : ∀ (p : List Int) (b : Int × List Int) (hh : am_H) (w7 w8 w9 w10 w11 : AV), okB n [p] = true → FrU h hh o → ordP (hh (o + 43)) n p → (0 ≤ b.1 → ∀ i, 0 ≤ i → i < (n : Int) → hh (o + 44) i = lf b.2 i) → (-1 ≤ b.1 ∧ b.1 ≤ 2000) →
        (∀ (b' : Int × List Int) (hh' : am_H) (w7 w8 w9 w10 w11 : AV), b' = (if b.1 < 0 ∨ pth (tEX T m) (tEY T m) u v p < b.1 then (pth (tEX T m) (tEY T m) u v p, p) else b) → FrU h hh' o → ordP (hh' (o + 43)) n p → (0 ≤ b'.1 → ∀ i, 0 ≤ i → i < (n : Int) → hh' (o + 44) i = lf b'.2 i) → (-1 ≤ b'.1 ∧ b'.1 ≤ 2000) → am_X G mX13_wayFrom (d + 3) 193 [aR o, aI m, aI u, aI v, aI n, aI b'.1, aI 1, w7, w8, w9, w10, w11] [] L hh' Q) →
        am_X G mX13_wayFrom (d + 3) 47 [aR o, aI m, aI u, aI v, aI n, aI b.1, aI 1, w7, w8, w9, w10, w11] [] L hh Q := by
      intro p b hh w7 w8 w9 w10 w11 z2 z3 z4 z6 z7 kk
      have hM1 := hM.fr z3.w
      have hlv1 := hM1.2.2.1
      have hex : ∀ i, 0 ≤ i → i < (n : Int) → hh (o + 16) (42 * s + 6 * m + i) = tEX T m i ∧ hh (o + 17) (42 * s + 6 * m + i) = tEY T m i := fun i y0 y1 => by
        obtain ⟨a1, a2⟩ := exy i y0 y1
        rw [z3 (o + 16) (by omega) (by omega), z3 (o + 17) (by omega) (by omega)]
        exact ⟨a1, a2⟩
      have hokp : p.length = n ∧ ∀ y ∈ p, 0 ≤ y ∧ y < (n : Int) := by
        have := (List.all_eq_true.mp z2) p (List.mem_singleton.mpr rfl)
        obtain ⟨y1, y2⟩ := Bool.and_eq_true_iff.mp this
        exact ⟨of_decide_eq_true y1, fun y hy => of_decide_eq_true (List.all_eq_true.mp y2 y hy)⟩
      have erdb : ∀ y, 0 ≤ y ∧ y < (n : Int) → (0 ≤ tEX T m y ∧ tEX T m y ≤ 11) ∧ (0 ≤ tEY T m y ∧ tEY T m y ≤ 11) := fun y hy => erd_in hT hm ⟨hy.1, by omega⟩
      have H147 : ∀ (c8 c9 : Int) (w10 w11 : AV), (0 ≤ pth (tEX T m) (tEY T m) u v p ∧ pth (tEX T m) (tEY T m) u v p ≤ 2000) → am_X G mX13_wayFrom (d + 3) 147 [aR o, aI m, aI u, aI v, aI n, aI b.1, aI 1, aI (pth (tEX T m) (tEY T m) u v p), aI c8, aI c9, w10, w11] [] L hh Q := fun c8 c9 w10 w11 hb => by
        refine x_iload5 dX13_wayFrom_147 ?_
        refine x_if_lt (tgt := 159) dX13_wayFrom_149 rfl (by omega) (fun c149 => ?_) (fun c149 => ?_)
        · have hlt : b.1 < 0 ∨ pth (tEX T m) (tEY T m) u v p < b.1 := by omega
          refine x_iload7 dX13_wayFrom_159 ?_
          refine x_istore5 dX13_wayFrom_161 rfl ?_
          refine x_iconst dX13_wayFrom_163 ?_
          refine x_istore10 dX13_wayFrom_164 rfl ?_
          refine x_for (n : Int) (fun i h2 => FrU h h2 o ∧ ordP (h2 (o + 43)) n p ∧ ∀ j, 0 ≤ j → j < i → h2 (o + 44) j = lf p j) (fun i h2 => am_X G mX13_wayFrom (d + 3) 166 [aR o, aI m, aI u, aI v, aI n, aI (pth (tEX T m) (tEY T m) u v p), aI 1, aI (pth (tEX T m) (tEY T m) u v p), aI c8, aI c9, aI i, w11] [] L h2 Q) (fun i h2 g0 g1 hP ih => ?_) hh (by omega) ⟨z3, z4, fun j y0 y1 => by omega⟩
          obtain ⟨p1, p2, p3⟩ := hP
          refine x_iload10 dX13_wayFrom_166 ?_
          refine x_iload4 dX13_wayFrom_168 ?_
          refine x_icmp_ge (tgt := 193) dX13_wayFrom_170 rfl (by omega) (by omega) (fun c170 => ?_) (fun c170 => ?_)
          · refine kk (pth (tEX T m) (tEY T m) u v p, p) h2 _ _ _ _ _ (if_pos hlt).symm p1 p2 (fun _ j y0 y1 => p3 j y0 (by omega)) ⟨by omega, by omega⟩
          · refine x_aload_0 dX13_wayFrom_173 ?_
            refine x_getR dX13_wayFrom_174 fl1637_13 rfl (by first | (exact MdL.k0 (by assumption)) | (assumption)) (by first | (exact MdL.v_bestOrder (by assumption)) | (assumption)) ?_
            refine x_iload10 dX13_wayFrom_177 ?_
            refine x_aload_0 dX13_wayFrom_179 ?_
            refine x_getR dX13_wayFrom_180 fl1636_13 rfl (by first | (exact MdL.k0 (by assumption)) | (assumption)) (by first | (exact MdL.v_order (by assumption)) | (assumption)) ?_
            refine x_iload10 dX13_wayFrom_183 ?_
            refine x_iald_ dX13_wayFrom_185 (by first | (exact MdL.k_order (by assumption)) | (assumption)) (by first | (exact MdL.x_order (by assumption) (by omega) (by omega)) | (omega)) (fun r185 => ?_)
            simp (disch := omega) only [(p2 i g0 (by omega))] at r185 ⊢
            refine x_iast_ dX13_wayFrom_186 (by first | (exact MdL.k_bestOrder (by assumption)) | (assumption)) (by first | (exact MdL.x_bestOrder (by assumption) (by omega) (by omega)) | (omega)) (by omega) ?_
            refine x_iinc10 dX13_wayFrom_187 rfl ?_
            refine x_goto (tgt := 166) dX13_wayFrom_190 rfl ?_
            refine ih _ (by omega) ⟨p1.tr (FrU.arr (by omega)), by rw [am_st_o (by omega)]; exact p2, fun j y0 y1 => ?_⟩
            rw [am_st_at]
            by_cases ej : j = i
            · rw [if_pos ⟨rfl, ej⟩, ej]
            · rw [if_neg (fun z => ej z.2)]
              exact p3 j y0 (by omega)
        · refine x_iload7 dX13_wayFrom_152 ?_
          refine x_iload5 dX13_wayFrom_154 ?_
          refine x_icmp_ge (tgt := 193) dX13_wayFrom_156 rfl (by omega) (by omega) (fun c156 => ?_) (fun c156 => ?_)
          · refine kk b hh _ _ _ _ _ ?_ z3 z4 z6 z7
            rw [if_neg (by omega)]
          · have hlt : b.1 < 0 ∨ pth (tEX T m) (tEY T m) u v p < b.1 := by omega
            refine x_iload7 dX13_wayFrom_159 ?_
            refine x_istore5 dX13_wayFrom_161 rfl ?_
            refine x_iconst dX13_wayFrom_163 ?_
            refine x_istore10 dX13_wayFrom_164 rfl ?_
            refine x_for (n : Int) (fun i h2 => FrU h h2 o ∧ ordP (h2 (o + 43)) n p ∧ ∀ j, 0 ≤ j → j < i → h2 (o + 44) j = lf p j) (fun i h2 => am_X G mX13_wayFrom (d + 3) 166 [aR o, aI m, aI u, aI v, aI n, aI (pth (tEX T m) (tEY T m) u v p), aI 1, aI (pth (tEX T m) (tEY T m) u v p), aI c8, aI c9, aI i, w11] [] L h2 Q) (fun i h2 g0 g1 hP ih => ?_) hh (by omega) ⟨z3, z4, fun j y0 y1 => by omega⟩
            obtain ⟨p1, p2, p3⟩ := hP
            refine x_iload10 dX13_wayFrom_166 ?_
            refine x_iload4 dX13_wayFrom_168 ?_
            refine x_icmp_ge (tgt := 193) dX13_wayFrom_170 rfl (by omega) (by omega) (fun c170 => ?_) (fun c170 => ?_)
            · refine kk (pth (tEX T m) (tEY T m) u v p, p) h2 _ _ _ _ _ (if_pos hlt).symm p1 p2 (fun _ j y0 y1 => p3 j y0 (by omega)) ⟨by omega, by omega⟩
            · refine x_aload_0 dX13_wayFrom_173 ?_
              refine x_getR dX13_wayFrom_174 fl1637_13 rfl (by first | (exact MdL.k0 (by assumption)) | (assumption)) (by first | (exact MdL.v_bestOrder (by assumption)) | (assumption)) ?_
              refine x_iload10 dX13_wayFrom_177 ?_
              refine x_aload_0 dX13_wayFrom_179 ?_
              refine x_getR dX13_wayFrom_180 fl1636_13 rfl (by first | (exact MdL.k0 (by assumption)) | (assumption)) (by first | (exact MdL.v_order (by assumption)) | (assumption)) ?_
              refine x_iload10 dX13_wayFrom_183 ?_
              refine x_iald_ dX13_wayFrom_185 (by first | (exact MdL.k_order (by assumption)) | (assumption)) (by first | (exact MdL.x_order (by assumption) (by omega) (by omega)) | (omega)) (fun r185 => ?_)
              simp (disch := omega) only [(p2 i g0 (by omega))] at r185 ⊢
              refine x_iast_ dX13_wayFrom_186 (by first | (exact MdL.k_bestOrder (by assumption)) | (assumption)) (by first | (exact MdL.x_bestOrder (by assumption) (by omega) (by omega)) | (omega)) (by omega) ?_
              refine x_iinc10 dX13_wayFrom_187 rfl ?_
              refine x_goto (tgt := 166) dX13_wayFrom_190 rfl ?_
              refine ih _ (by omega) ⟨p1.tr (FrU.arr (by omega)), by rw [am_st_o (by omega)]; exact p2, fun j y0 y1 => ?_⟩
              rw [am_st_at]
              by_cases ej : j = i
              · rw [if_pos ⟨rfl, ej⟩, ej]
              · rw [if_neg (fun z => ej z.2)]
                exact p3 j y0 (by omega)
      refine x_iload6 dX13_wayFrom_47 ?_
      refine x_if_eq (tgt := 204) dX13_wayFrom_49 rfl (by omega) (fun c49 => ?_) (fun c49 => ?_)
      · exfalso; omega
      · refine x_iconst dX13_wayFrom_52 ?_
        refine x_istore7 dX13_wayFrom_53 rfl ?_
        refine x_iload_2 dX13_wayFrom_55 ?_
        refine x_istore8 dX13_wayFrom_56 rfl ?_
        refine x_iload_3 dX13_wayFrom_58 ?_
        refine x_istore9 dX13_wayFrom_59 rfl ?_
        refine x_iconst dX13_wayFrom_61 ?_
        refine x_istore10 dX13_wayFrom_62 rfl ?_
        suffices HS : ∀ (r : List Int) (i : Nat) (sum cu cv : Int) (w11 : AV), i + r.length = n → (∀ j : Nat, j < r.length → lf p ((i : Int) + j) = r.getD j 0) → (∀ y ∈ r, 0 ≤ y ∧ y < (n : Int)) → sum + pth (tEX T m) (tEY T m) cu cv r = pth (tEX T m) (tEY T m) u v p → (0 ≤ sum ∧ sum ≤ 22 * i) → (0 ≤ cu ∧ cu ≤ 11) → (0 ≤ cv ∧ cv ≤ 11) → am_X G mX13_wayFrom (d + 3) 64 [aR o, aI m, aI u, aI v, aI n, aI b.1, aI 1, aI sum, aI cu, aI cv, aI (i : Int), w11] [] L hh Q from HS p 0 0 u v w11 (by rw [hokp.1]; omega) (fun j hj => by unfold lf; rw [show (((0 : Nat) : Int) + (j : Int)).toNat = j by omega]) hokp.2 (by omega) ⟨by omega, by omega⟩ hu hv
        intro r
        induction r with
        | nil =>
          intro i sum cu cv w11 y1 y2 y3 y4 y5 y6 y7
          have e0 : sum = pth (tEX T m) (tEY T m) u v p := by
            rw [← y4]
            show sum = sum + 0
            omega
          have y1' : i = n := y1
          refine x_iload10 dX13_wayFrom_64 ?_
          refine x_iload4 dX13_wayFrom_66 ?_
          refine x_icmp_ge (tgt := 147) dX13_wayFrom_68 rfl (by omega) (by omega) (fun c68 => ?_) (fun c68 => ?_)
          · rw [e0]
            exact H147 _ _ _ _ ⟨by omega, by omega⟩
          · exfalso; omega
        | cons y r ihr =>
          intro i sum cu cv w11 y1 y2 y3 y4 y5 y6 y7
          have hy := y3 y (List.mem_cons_self ..)
          have hl : i + r.length + 1 = n := by rw [← y1]; simp; omega
          have eo : hh (o + 43) (i : Int) = y := by
            rw [z4 i (by omega) (by omega)]
            have := y2 0 (by simp)
            rw [show (i : Int) + ((0 : Nat) : Int) = i by omega] at this
            exact this
          obtain ⟨ex1, ey1⟩ := hex y hy.1 hy.2
          have eb := erdb y hy
          have q1 := apa_nn cu (tEX T m y)
          have q2 := apa_nn cv (tEY T m y)
          have q3 := apa_bd y6 eb.1
          have q4 := apa_bd y7 eb.2
          have y4' : sum + (apa cu (tEX T m y) + apa cv (tEY T m y) + pth (tEX T m) (tEY T m) (tEX T m y) (tEY T m y) r) = pth (tEX T m) (tEY T m) u v p := y4
          have nx := fun w11 => ihr (i + 1) (sum + (apa cu (tEX T m y) + apa cv (tEY T m y))) (tEX T m y) (tEY T m y) w11 (by omega) (fun j hj => by
            have := y2 (j + 1) (by simp; omega)
            rw [show ((i + 1 : Nat) : Int) + (j : Int) = (i : Int) + ((j + 1 : Nat) : Int) by omega]
            exact this) (fun z hz => y3 z (List.mem_cons_of_mem _ hz)) (by omega) ⟨by omega, by omega⟩ eb.1 eb.2
          refine x_iload10 dX13_wayFrom_64 ?_
          refine x_iload4 dX13_wayFrom_66 ?_
          refine x_icmp_ge (tgt := 147) dX13_wayFrom_68 rfl (by omega) (by omega) (fun c68 => ?_) (fun c68 => ?_)
          · exfalso; omega
          · refine x_bipush dX13_wayFrom_71 rfl ?_
            refine x_aload_0 dX13_wayFrom_73 ?_
            refine x_getI_ dX13_wayFrom_74 fl1592_13 (by first | (exact MdL.k0 (by assumption)) | (assumption)) (fun r74 => ?_)
            rw [hlv1] at r74 ⊢
            refine x_imul dX13_wayFrom_77 ?_
            refine x_bipush dX13_wayFrom_78 rfl ?_
            refine x_iload_1 dX13_wayFrom_80 ?_
            refine x_imul dX13_wayFrom_81 ?_
            refine x_iadd dX13_wayFrom_82 ?_
            refine x_aload_0 dX13_wayFrom_83 ?_
            refine x_getR dX13_wayFrom_84 fl1636_13 rfl (by first | (exact MdL.k0 (by assumption)) | (assumption)) (by first | (exact MdL.v_order (by assumption)) | (assumption)) ?_
            refine x_iload10 dX13_wayFrom_87 ?_
            refine x_iald_ dX13_wayFrom_89 (by first | (exact MdL.k_order (by assumption)) | (assumption)) (by first | (exact MdL.x_order (by assumption) (by omega) (by omega)) | (omega)) (fun r89 => ?_)
            simp (disch := omega) only [eo] at r89 ⊢
            refine x_iadd dX13_wayFrom_90 ?_
            refine x_istore11 dX13_wayFrom_91 rfl ?_
            refine x_iload7 dX13_wayFrom_93 ?_
            refine x_iload8 dX13_wayFrom_95 ?_
            refine x_aload_0 dX13_wayFrom_97 ?_
            refine x_getR dX13_wayFrom_98 fl1603_13 rfl (by first | (exact MdL.k0 (by assumption)) | (assumption)) (by first | (exact MdL.v_errandX (by assumption)) | (assumption)) ?_
            refine x_iload11 dX13_wayFrom_101 ?_
            refine x_iald_ dX13_wayFrom_103 (by first | (exact MdL.k_errandX (by assumption)) | (assumption)) (by first | (exact MdL.x_errandX (by assumption) (by omega) (by omega)) | (omega)) (fun r103 => ?_)
            rw [ex1] at r103 ⊢
            refine x_callS2 dX13_wayFrom_104 rfl okX13_apart q1954 q1955 rfl (C_X13_apart ⟨by omega, by omega⟩ ⟨by omega, by omega⟩ (x_k1 ?_))
            refine x_iload9 dX13_wayFrom_107 ?_
            refine x_aload_0 dX13_wayFrom_109 ?_
            refine x_getR dX13_wayFrom_110 fl1604_13 rfl (by first | (exact MdL.k0 (by assumption)) | (assumption)) (by first | (exact MdL.v_errandY (by assumption)) | (assumption)) ?_
            refine x_iload11 dX13_wayFrom_113 ?_
            refine x_iald_ dX13_wayFrom_115 (by first | (exact MdL.k_errandY (by assumption)) | (assumption)) (by first | (exact MdL.x_errandY (by assumption) (by omega) (by omega)) | (omega)) (fun r115 => ?_)
            rw [ey1] at r115 ⊢
            refine x_callS2 dX13_wayFrom_116 rfl okX13_apart q1954 q1955 rfl (C_X13_apart ⟨by omega, by omega⟩ ⟨by omega, by omega⟩ (x_k1 ?_))
            refine x_iadd dX13_wayFrom_119 ?_
            refine x_iadd dX13_wayFrom_120 ?_
            refine x_istore7 dX13_wayFrom_121 rfl ?_
            refine x_aload_0 dX13_wayFrom_123 ?_
            refine x_getR dX13_wayFrom_124 fl1603_13 rfl (by first | (exact MdL.k0 (by assumption)) | (assumption)) (by first | (exact MdL.v_errandX (by assumption)) | (assumption)) ?_
            refine x_iload11 dX13_wayFrom_127 ?_
            refine x_iald_ dX13_wayFrom_129 (by first | (exact MdL.k_errandX (by assumption)) | (assumption)) (by first | (exact MdL.x_errandX (by assumption) (by omega) (by omega)) | (omega)) (fun r129 => ?_)
            rw [ex1] at r129 ⊢
            refine x_istore8 dX13_wayFrom_130 rfl ?_
            refine x_aload_0 dX13_wayFrom_132 ?_
            refine x_getR dX13_wayFrom_133 fl1604_13 rfl (by first | (exact MdL.k0 (by assumption)) | (assumption)) (by first | (exact MdL.v_errandY (by assumption)) | (assumption)) ?_
            refine x_iload11 dX13_wayFrom_136 ?_
            refine x_iald_ dX13_wayFrom_138 (by first | (exact MdL.k_errandY (by assumption)) | (assumption)) (by first | (exact MdL.x_errandY (by assumption) (by omega) (by omega)) | (omega)) (fun r138 => ?_)
            rw [ey1] at r138 ⊢
            refine x_istore9 dX13_wayFrom_139 rfl ?_
            refine x_iinc10 dX13_wayFrom_141 rfl ?_
            refine x_goto (tgt := 64) dX13_wayFrom_144 rfl ?_
            exact nx _
    intro P
    induction P with
    | nil =>
      intro p b hh w7 w8 w9 w10 w11 z1 z2 z3 z4 z5 z6 z7
      refine one p b hh w7 w8 w9 w10 w11 z2 z3 z4 z6 z7 (fun b' hh' w7 w8 w9 w10 w11 e1 e2 e3 e4 e5 => ?_)
      have z5' : b' = wyR T m u v := by rw [e1]; exact z5
      have nn : nxA n (lf p) = none := by
        have z1' : (nxA n (lf p)).isNone = true := z1
        cases hz : nxA n (lf p) with
        | none => rfl
        | some B => rw [hz] at z1'; cases z1'
      have wn : 0 ≤ (wyR T m u v).1 := (wyR_bd hT hm hu hv).1
      refine x_aload_0 dX13_wayFrom_193 ?_
      refine x_iload4 dX13_wayFrom_194 ?_
      refine x_callV1 dX13_wayFrom_196 rfl okX13_nextOrder q2085 q2087 qs100 (by first | assumption | (exact MdL.k0 (by assumption))) am_k13 rfl (C_X13_nextOrder hL hn6 e3 (fun B hB => by rw [nn] at hB; cases hB) (fun _ => (x_k1 ?_)))
      refine x_istore6 dX13_wayFrom_199 rfl ?_
      refine x_goto (tgt := 47) dX13_wayFrom_201 rfl ?_
      skip
      refine x_iload6 dX13_wayFrom_47 ?_
      refine x_if_eq (tgt := 204) dX13_wayFrom_49 rfl (by omega) (fun c49 => ?_) (fun c49 => ?_)
      · refine x_iload5 dX13_wayFrom_204 ?_
        refine x_iret dX13_wayFrom_206 rfl ?_
        rw [z5'] at e4 ⊢
        exact k hh' e2 (e4 wn)
      · exact absurd rfl c49
    | cons p' P ih =>
      intro p b hh w7 w8 w9 w10 w11 z1 z2 z3 z4 z5 z6 z7
      have z2' : okB n [p] = true ∧ okB n (p' :: P) = true := by
        have z2a : (decide (p.length = n) && p.all (fun x => decide (0 ≤ x ∧ x < (n : Int))) && okB n (p' :: P)) = true := z2
        obtain ⟨y1, y2⟩ := Bool.and_eq_true_iff.mp z2a
        refine ⟨?_, y2⟩
        show (decide (p.length = n) && p.all (fun x => decide (0 ≤ x ∧ x < (n : Int))) && true) = true
        rw [y1]
        rfl
      refine one p b hh w7 w8 w9 w10 w11 z2'.1 z3 z4 z6 z7 (fun b' hh' w7 w8 w9 w10 w11 e1 e2 e3 e4 e5 => ?_)
      obtain ⟨B, hB, hBq, hch'⟩ : ∃ B, nxA n (lf p) = some B ∧ (∀ k, 0 ≤ k → k < (n : Int) → B k = lf p' k) ∧ chB n (p' :: P) = true := by
        have z1a : ((match nxA n (lf p) with
          | none => false
          | some B => (List.range n).all (fun k => decide (B k = lf p' k))) && chB n (p' :: P)) = true := z1
        obtain ⟨y1, y2⟩ := Bool.and_eq_true_iff.mp z1a
        cases hz : nxA n (lf p) with
        | none => rw [hz] at y1; cases y1
        | some B =>
          rw [hz] at y1
          refine ⟨B, rfl, fun k x0 x1 => ?_, y2⟩
          have := of_decide_eq_true (List.all_eq_true.mp y1 k.toNat (List.mem_range.mpr (by omega)))
          rw [show ((k.toNat : Nat) : Int) = k by omega] at this
          exact this
      have z5' : bsL (pth (tEX T m) (tEY T m) u v) b' (p' :: P) = wyR T m u v := by rw [e1]; exact z5
      refine x_aload_0 dX13_wayFrom_193 ?_
      refine x_iload4 dX13_wayFrom_194 ?_
      refine x_callV1 dX13_wayFrom_196 rfl okX13_nextOrder q2085 q2087 qs100 (by first | assumption | (exact MdL.k0 (by assumption))) am_k13 rfl (C_X13_nextOrder hL hn6 e3 (fun B' hB' h4 f4 o4 => (x_k1 ?_)) (fun hno => by rw [hB] at hno; cases hno))
      refine x_istore6 dX13_wayFrom_199 rfl ?_
      refine x_goto (tgt := 47) dX13_wayFrom_201 rfl ?_
      have eB : B' = B := by rw [hB] at hB'; exact (Option.some.inj hB').symm
      refine ih p' b' h4 _ _ _ _ _ hch' z2'.2 (e2.tr (fun a y0 y1 => f4 a y0)) (fun k x0 x1 => by rw [o4 k x0 x1, eB]; exact hBq k x0 x1) z5' (fun y0 j y1 y2 => by rw [f4 _ (by omega)]; exact e4 y0 j y1 y2) e5
  refine x_start okX13_wayFrom rfl rfl rfl rfl ?_
  refine x_aload_0 dX13_wayFrom_0 ?_
  refine x_getR dX13_wayFrom_1 fl1602_13 rfl (by first | (exact MdL.k0 (by assumption)) | (assumption)) (by first | (exact MdL.v_errands (by assumption)) | (assumption)) ?_
  refine x_bipush dX13_wayFrom_4 rfl ?_
  refine x_aload_0 dX13_wayFrom_6 ?_
  refine x_getI_ dX13_wayFrom_7 fl1592_13 (by first | (exact MdL.k0 (by assumption)) | (assumption)) (fun r7 => ?_)
  rw [hlv] at r7 ⊢
  refine x_imul dX13_wayFrom_10 ?_
  refine x_iload_1 dX13_wayFrom_11 ?_
  refine x_iadd dX13_wayFrom_12 ?_
  refine x_iald_ dX13_wayFrom_13 (by first | (exact MdL.k_errands (by assumption)) | (assumption)) (by first | (exact MdL.x_errands (by assumption) (by omega) (by omega)) | (omega)) (fun r13 => ?_)
  rw [ee] at r13 ⊢
  refine x_istore4 dX13_wayFrom_14 rfl ?_
  refine x_iconst dX13_wayFrom_16 ?_
  refine x_istore5 dX13_wayFrom_17 rfl ?_
  refine x_for (n : Int) (fun i hh => FrU h hh o ∧ ∀ j, 0 ≤ j → j < i → hh (o + 43) j = j) (fun i hh => am_X G mX13_wayFrom (d + 3) 19 [aR o, aI m, aI u, aI v, aI n, aI i, aU, aU, aU, aU, aU, aU] [] L hh Q) (fun i hh g0 g1 hP ih => ?_) h (by omega) ⟨FrU.rf h o, fun j z0 z1 => by omega⟩
  obtain ⟨p1, p2⟩ := hP
  refine x_iload5 dX13_wayFrom_19 ?_
  refine x_iload4 dX13_wayFrom_21 ?_
  refine x_icmp_ge (tgt := 41) dX13_wayFrom_23 rfl (by omega) (by omega) (fun c23 => ?_) (fun c23 => ?_)
  · refine x_iconst dX13_wayFrom_41 ?_
    refine x_istore5 dX13_wayFrom_42 rfl ?_
    refine x_iconst dX13_wayFrom_44 ?_
    refine x_istore6 dX13_wayFrom_45 rfl ?_
    refine H47 P0 p0 (-1, []) hh _ _ _ _ _ hch hok1 p1 (fun j z0 z1 => ?_) ebs' (fun z => absurd z (by decide)) ⟨by decide, by decide⟩
    rw [hp0, lf0 j z0 z1]
    exact p2 j z0 (by omega)
  · refine x_aload_0 dX13_wayFrom_26 ?_
    refine x_getR dX13_wayFrom_27 fl1636_13 rfl (by first | (exact MdL.k0 (by assumption)) | (assumption)) (by first | (exact MdL.v_order (by assumption)) | (assumption)) ?_
    refine x_iload5 dX13_wayFrom_30 ?_
    refine x_iload5 dX13_wayFrom_32 ?_
    refine x_iast_ dX13_wayFrom_34 (by first | (exact MdL.k_order (by assumption)) | (assumption)) (by first | (exact MdL.x_order (by assumption) (by omega) (by omega)) | (omega)) (by omega) ?_
    refine x_iinc5 dX13_wayFrom_35 rfl ?_
    refine x_goto (tgt := 19) dX13_wayFrom_38 rfl ?_
    refine ih _ (by omega) ⟨p1.tr (FrU.arr (by omega)), fun j z0 z1 => ?_⟩
    rw [am_st_at]
    by_cases ej : j = i
    · rw [if_pos ⟨rfl, ej⟩, ej]
    · rw [if_neg (fun z => ej z.2)]
      exact p2 j z0 (by omega)
theorem C_X13_wayOf {m : Int} (hM : MdT L h o s T) (hT : TxtI T) (hm : 0 ≤ m ∧ m < tM T) (k : ∀ h', FrU h h' o → (∀ i, 0 ≤ i → i < tE T m → h' (o + 44) i = lf (wyR T m (tDX T m) (tDY T m)).2 i) → Q (.inl [aI (wyR T m (tDX T m) (tDY T m)).1]) L h') : am_C G mX13_wayOf (d + 4) [aR o, aI m] L h Q := by
  have hL := hM.1
  have hs := hM.2.1
  have hlv := hM.2.2.1
  have h7 := hT.1
  obtain ⟨edx, edy, -⟩ := hM.2.2.2.2.2.2.2.2.1 m hm.1 hm.2
  have hd := dor_in hT hm
  refine x_start okX13_wayOf rfl rfl rfl rfl ?_
  refine x_aload_0 dX13_wayOf_0 ?_
  refine x_iload_1 dX13_wayOf_1 ?_
  refine x_aload_0 dX13_wayOf_2 ?_
  refine x_getR dX13_wayOf_3 fl1599_13 rfl (by first | (exact MdL.k0 (by assumption)) | (assumption)) (by first | (exact MdL.v_doorX (by assumption)) | (assumption)) ?_
  refine x_bipush dX13_wayOf_6 rfl ?_
  refine x_aload_0 dX13_wayOf_8 ?_
  refine x_getI_ dX13_wayOf_9 fl1592_13 (by first | (exact MdL.k0 (by assumption)) | (assumption)) (fun r9 => ?_)
  rw [hlv] at r9 ⊢
  refine x_imul dX13_wayOf_12 ?_
  refine x_iload_1 dX13_wayOf_13 ?_
  refine x_iadd dX13_wayOf_14 ?_
  refine x_iald_ dX13_wayOf_15 (by first | (exact MdL.k_doorX (by assumption)) | (assumption)) (by first | (exact MdL.x_doorX (by assumption) (by omega) (by omega)) | (omega)) (fun r15 => ?_)
  rw [edx] at r15 ⊢
  refine x_aload_0 dX13_wayOf_16 ?_
  refine x_getR dX13_wayOf_17 fl1600_13 rfl (by first | (exact MdL.k0 (by assumption)) | (assumption)) (by first | (exact MdL.v_doorY (by assumption)) | (assumption)) ?_
  refine x_bipush dX13_wayOf_20 rfl ?_
  refine x_aload_0 dX13_wayOf_22 ?_
  refine x_getI_ dX13_wayOf_23 fl1592_13 (by first | (exact MdL.k0 (by assumption)) | (assumption)) (fun r23 => ?_)
  rw [hlv] at r23 ⊢
  refine x_imul dX13_wayOf_26 ?_
  refine x_iload_1 dX13_wayOf_27 ?_
  refine x_iadd dX13_wayOf_28 ?_
  refine x_iald_ dX13_wayOf_29 (by first | (exact MdL.k_doorY (by assumption)) | (assumption)) (by first | (exact MdL.x_doorY (by assumption) (by omega) (by omega)) | (omega)) (fun r29 => ?_)
  rw [edy] at r29 ⊢
  refine x_callV3 dX13_wayOf_30 rfl okX13_wayFrom q2081 q2083 qs99 (by first | assumption | (exact MdL.k0 (by assumption))) am_k13 rfl (C_X13_wayFrom hM hT hm hd.1 hd.2 (fun h1 f1 b1 => (x_k1 ?_)))
  refine x_iret dX13_wayOf_33 rfl ?_
  exact k h1 f1 b1
theorem C_X13_way {m : Int} (hC : TwT L h o s T S) (hT : TxtI T) (hm : rg32 m) (k : ∀ h', FrW h h' o → Q (.inl [aI (wayV T m)]) L h') : am_C G mX13_way (d + 12) [aR o, aI m] L h Q := by
  have hM := hC.1
  have hL := hM.1
  refine x_start okX13_way rfl rfl rfl rfl ?_
  refine x_aload_0 dX13_way_0 ?_
  refine x_iload_1 dX13_way_1 ?_
  refine x_callV1 dX13_way_2 rfl okX13_isMan q1927 q1929 qs80 (by first | assumption | (exact MdL.k0 (by assumption))) am_k13 rfl (C_X13_isMan hM hT hm (x_k1 ?_))
  refine x_if_eq (tgt := 16) dX13_way_5 rfl (by split <;> omega) (fun c5 => ?_) (fun c5 => ?_)
  · skip
    refine x_iconst dX13_way_16 ?_
    refine x_iret dX13_way_17 rfl ?_
    refine x_q1 ?_ (k h (FrW.rf h o))
    unfold wayV
    rw [if_neg (fun z => by rw [if_pos z] at c5; omega)]
  · have hm1 : 0 ≤ m ∧ m < tM T := by split at c5 <;> first | assumption | omega
    refine x_aload_0 dX13_way_8 ?_
    refine x_iload_1 dX13_way_9 ?_
    refine x_callV1 dX13_way_10 rfl okX13_wayOf q2077 q2079 qs98 (by first | assumption | (exact MdL.k0 (by assumption))) am_k13 rfl (C_X13_wayOf hM hT hm1 (fun h1 f1 b1 => (x_k1 ?_)))
    refine x_goto (tgt := 17) dX13_way_13 rfl ?_
    refine x_iret dX13_way_17 rfl ?_
    refine x_q1 ?_ (k h1 f1.w)
    unfold wayV
    rw [if_pos hm1]
theorem C_X13_wayAt {m i : Int} (hC : TwT L h o s T S) (hT : TxtI T) (hm : rg32 m) (hi : rg32 i) (k : ∀ h', FrW h h' o → Q (.inl [aI (wayAtV T m i)]) L h') : am_C G mX13_wayAt (d + 12) [aR o, aI m, aI i] L h Q := by
  have hM := hC.1
  have hL := hM.1
  have hs := hM.2.1
  have hlv := hM.2.2.1
  have h7 := hT.1
  refine x_start okX13_wayAt rfl rfl rfl rfl ?_
  refine x_aload_0 dX13_wayAt_0 ?_
  refine x_iload_1 dX13_wayAt_1 ?_
  refine x_callV1 dX13_wayAt_2 rfl okX13_isMan q1927 q1929 qs80 (by first | assumption | (exact MdL.k0 (by assumption))) am_k13 rfl (C_X13_isMan hM hT hm (x_k1 ?_))
  refine x_if_eq (tgt := 32) dX13_wayAt_5 rfl (by split <;> omega) (fun c5 => ?_) (fun c5 => ?_)
  · skip
    refine x_iconst dX13_wayAt_32 ?_
    refine x_iret dX13_wayAt_33 rfl ?_
    refine x_q1 ?_ (k h (FrW.rf h o))
    unfold wayAtV
    rw [if_neg (fun z => by rw [if_pos z.1] at c5; omega)]
  · have hm1 : 0 ≤ m ∧ m < tM T := by split at c5 <;> first | assumption | omega
    have ee := (hM.2.2.2.2.2.2.2.2.1 m hm1.1 hm1.2).2.2.2.1
    have hE := (erd_n hT hm1).1
    refine x_iload_2 dX13_wayAt_8 ?_
    refine x_iconst dX13_wayAt_9 ?_
    refine x_aload_0 dX13_wayAt_10 ?_
    refine x_getR dX13_wayAt_11 fl1602_13 rfl (by first | (exact MdL.k0 (by assumption)) | (assumption)) (by first | (exact MdL.v_errands (by assumption)) | (assumption)) ?_
    refine x_bipush dX13_wayAt_14 rfl ?_
    refine x_aload_0 dX13_wayAt_16 ?_
    refine x_getI_ dX13_wayAt_17 fl1592_13 (by first | (exact MdL.k0 (by assumption)) | (assumption)) (fun r17 => ?_)
    rw [hlv] at r17 ⊢
    refine x_imul dX13_wayAt_20 ?_
    refine x_iload_1 dX13_wayAt_21 ?_
    refine x_iadd dX13_wayAt_22 ?_
    refine x_iald_ dX13_wayAt_23 (by first | (exact MdL.k_errands (by assumption)) | (assumption)) (by first | (exact MdL.x_errands (by assumption) (by omega) (by omega)) | (omega)) (fun r23 => ?_)
    rw [ee] at r23 ⊢
    refine x_iconst dX13_wayAt_24 ?_
    refine x_isub dX13_wayAt_25 ?_
    refine x_callS3 dX13_wayAt_26 rfl okX13_in q1931 q1932 rfl (C_X13_in hi ⟨by decide, by decide⟩ ⟨by omega, by omega⟩ (x_k1 ?_))
    refine x_if_ne (tgt := 34) dX13_wayAt_29 rfl (by split <;> omega) (fun c29 => ?_) (fun c29 => ?_)
    · have hi1 : 0 ≤ i ∧ i < tE T m := by split at c29 <;> omega
      refine x_aload_0 dX13_wayAt_34 ?_
      refine x_iload_1 dX13_wayAt_35 ?_
      refine x_callV1 dX13_wayAt_36 rfl okX13_wayOf q2077 q2079 qs98 (by first | assumption | (exact MdL.k0 (by assumption))) am_k13 rfl (C_X13_wayOf hM hT hm1 (fun h1 f1 b1 => (x_k1 ?_)))
      refine x_pop dX13_wayAt_39 rfl ?_
      refine x_aload_0 dX13_wayAt_40 ?_
      refine x_getR dX13_wayAt_41 fl1637_13 rfl (by first | (exact MdL.k0 (by assumption)) | (assumption)) (by first | (exact MdL.v_bestOrder (by assumption)) | (assumption)) ?_
      refine x_iload_2 dX13_wayAt_44 ?_
      refine x_iald_ dX13_wayAt_45 (by first | (exact MdL.k_bestOrder (by assumption)) | (assumption)) (by first | (exact MdL.x_bestOrder (by assumption) (by omega) (by omega)) | (omega)) (fun r45 => ?_)
      simp (disch := omega) only [(b1 i hi1.1 hi1.2)] at r45 ⊢
      refine x_iret dX13_wayAt_46 rfl ?_
      refine x_q1 ?_ (k h1 f1.w)
      unfold wayAtV
      rw [if_pos ⟨hm1, hi1⟩]
      rfl
    · skip
      refine x_iconst dX13_wayAt_32 ?_
      refine x_iret dX13_wayAt_33 rfl ?_
      refine x_q1 ?_ (k h (FrW.rf h o))
      unfold wayAtV
      rw [if_neg (fun z => by rw [if_pos (by omega)] at c29; omega)]
set_option maxHeartbeats 4000000 in
theorem C_X13_lives {m : Int} (hC : TwT L h o s T S) (hT : TxtI T) (hm : rg32 m) (k : ∀ h', FrW h h' o → Q (.inl [aI (livesV T m)]) L h') : am_C G mX13_lives (d + 12) [aR o, aI m] L h Q := by
  have hM := hC.1
  have hL := hM.1
  have hs := hM.2.1
  have h7 := hT.1
  have hwd := hT.2.1
  have hdp := hT.2.2.1
  refine x_start okX13_lives rfl rfl rfl rfl ?_
  refine x_aload_0 dX13_lives_0 ?_
  refine x_iload_1 dX13_lives_1 ?_
  refine x_callV1 dX13_lives_2 rfl okX13_isMan q1927 q1929 qs80 (by first | assumption | (exact MdL.k0 (by assumption))) am_k13 rfl (C_X13_isMan hM hT hm (x_k1 ?_))
  refine x_if_ne (tgt := 10) dX13_lives_5 rfl (by split <;> omega) (fun c5 => ?_) (fun c5 => ?_)
  · have hm1 : 0 ≤ m ∧ m < tM T := by split at c5 <;> first | assumption | omega
    have bl := lng_bd hT m
    refine x_aload_0 dX13_lives_10 ?_
    refine x_iload_1 dX13_lives_11 ?_
    refine x_callV1 dX13_lives_12 rfl okX13_longOf q1942 q1944 qs83 (by first | assumption | (exact MdL.k0 (by assumption))) am_k13 rfl (C_X13_longOf hM hT hm1 (fun h1 f1 => (x_k1 ?_)))
    refine x_istore_2 dX13_lives_15 rfl ?_
    refine x_iconst dX13_lives_16 ?_
    refine x_istore_3 dX13_lives_17 rfl ?_
    refine x_iconst dX13_lives_18 ?_
    refine x_istore4 dX13_lives_19 rfl ?_
    refine x_forA (tDeep T) (fun y hh (w : AV) => FrW h hh o) (fun y hh w => am_X G mX13_lives (d + 12) 21 [aR o, aI m, aI (lng T m), aI (sumI y (fun y => sumI (tWide T) (lvF T m y))), aI y, w] [] L hh Q) (fun y hh w g0 g1 hP ih => ?_) h1 aU (by omega) f1.w
    have hM1 := hM.fr hP
    have hlv := hM1.2.2.1
    have ehi := hM1.2.2.2.2.2.1
    refine x_iload4 dX13_lives_21 ?_
    refine x_aload_0 dX13_lives_23 ?_
    refine x_getR dX13_lives_24 fl1597_13 rfl (by first | (exact MdL.k0 (by assumption)) | (assumption)) (by first | (exact MdL.v_high (by assumption)) | (assumption)) ?_
    refine x_aload_0 dX13_lives_27 ?_
    refine x_getI_ dX13_lives_28 fl1592_13 (by first | (exact MdL.k0 (by assumption)) | (assumption)) (fun r28 => ?_)
    rw [hlv] at r28 ⊢
    refine x_iald_ dX13_lives_31 (by first | (exact MdL.k_high (by assumption)) | (assumption)) (by first | (exact MdL.x_high (by assumption) (by omega) (by omega)) | (omega)) (fun r31 => ?_)
    rw [ehi] at r31 ⊢
    refine x_icmp_ge (tgt := 80) dX13_lives_32 rfl (by omega) (by omega) (fun c32 => ?_) (fun c32 => ?_)
    · refine x_iload_3 dX13_lives_80 ?_
      refine x_iret dX13_lives_81 rfl ?_
      rw [show y = tDeep T by omega]
      refine x_q1 ?_ (k hh hP)
      unfold livesV
      rw [if_pos hm1]
    · refine x_iconst dX13_lives_35 ?_
      refine x_istore5 dX13_lives_36 rfl ?_
      suffices H : am_X G mX13_lives (d + 12) 38 [aR o, aI m, aI (lng T m), aI (sumI y (fun y => sumI (tWide T) (lvF T m y)) + sumI 0 (lvF T m y)), aI y, aI 0] [] L hh Q by
        rw [sumI_0, Int.add_zero] at H
        exact H
      refine x_for (tWide T) (fun i h2 => FrW h h2 o) (fun i h2 => am_X G mX13_lives (d + 12) 38 [aR o, aI m, aI (lng T m), aI (sumI y (fun y => sumI (tWide T) (lvF T m y)) + sumI i (lvF T m y)), aI y, aI i] [] L h2 Q) (fun i h2 y0 y1 hP2 ih2 => ?_) hh (by omega) hP
      have hM2 := hM.fr hP2
      have hlv2 := hM2.2.2.1
      have ewd := hM2.2.2.2.2.1
      refine x_iload5 dX13_lives_38 ?_
      refine x_aload_0 dX13_lives_40 ?_
      refine x_getR dX13_lives_41 fl1596_13 rfl (by first | (exact MdL.k0 (by assumption)) | (assumption)) (by first | (exact MdL.v_wide (by assumption)) | (assumption)) ?_
      refine x_aload_0 dX13_lives_44 ?_
      refine x_getI_ dX13_lives_45 fl1592_13 (by first | (exact MdL.k0 (by assumption)) | (assumption)) (fun r45 => ?_)
      rw [hlv2] at r45 ⊢
      refine x_iald_ dX13_lives_48 (by first | (exact MdL.k_wide (by assumption)) | (assumption)) (by first | (exact MdL.x_wide (by assumption) (by omega) (by omega)) | (omega)) (fun r48 => ?_)
      rw [ewd] at r48 ⊢
      refine x_icmp_ge (tgt := 74) dX13_lives_49 rfl (by omega) (by omega) (fun c49 => ?_) (fun c49 => ?_)
      · refine x_iinc4 dX13_lives_74 rfl ?_
        refine x_goto (tgt := 21) dX13_lives_77 rfl ?_
        have := ih h2 (aI i) (by omega) hP2
        rw [sumI_s _ g0] at this
        rw [show i = tWide T by omega] at this ⊢
        exact this
      · have wb1 := wyR_bd hT hm1 (u := i) (v := y) ⟨by omega, by omega⟩ ⟨by omega, by omega⟩
        refine x_aload_0 dX13_lives_52 ?_
        refine x_iload_1 dX13_lives_53 ?_
        refine x_iload5 dX13_lives_54 ?_
        refine x_iload4 dX13_lives_56 ?_
        refine x_callV3 dX13_lives_58 rfl okX13_wayFrom q2081 q2083 qs99 (by first | assumption | (exact MdL.k0 (by assumption))) am_k13 rfl (C_X13_wayFrom hM2 hT hm1 ⟨by omega, by omega⟩ ⟨by omega, by omega⟩ (fun h3 f3 b3 => (x_k1 ?_)))
        refine x_iload_2 dX13_lives_61 ?_
        refine x_icmp_gt (tgt := 68) dX13_lives_62 rfl (by omega) (by omega) (fun c62 => ?_) (fun c62 => ?_)
        · refine x_iinc5 dX13_lives_68 rfl ?_
          refine x_goto (tgt := 38) dX13_lives_71 rfl ?_
          have := ih2 h3 (by omega) (hP2.tr f3.w)
          rw [sumI_s _ y0, ← Int.add_assoc] at this
          have e : lvF T m y i = if (wyR T m i y).1 ≤ lng T m then 1 else 0 := rfl
          first
          | (rw [if_pos (by omega)] at e; rw [e] at this; exact this)
          | (rw [if_neg (by omega)] at e; rw [e, Int.add_zero] at this; exact this)
        · refine x_iinc3 dX13_lives_65 rfl ?_
          refine x_iinc5 dX13_lives_68 rfl ?_
          refine x_goto (tgt := 38) dX13_lives_71 rfl ?_
          have := ih2 h3 (by omega) (hP2.tr f3.w)
          rw [sumI_s _ y0, ← Int.add_assoc] at this
          have e : lvF T m y i = if (wyR T m i y).1 ≤ lng T m then 1 else 0 := rfl
          first
          | (rw [if_pos (by omega)] at e; rw [e] at this; exact this)
          | (rw [if_neg (by omega)] at e; rw [e, Int.add_zero] at this; exact this)
  · refine x_iconst dX13_lives_8 ?_
    refine x_iret dX13_lives_9 rfl ?_
    refine x_q1 ?_ (k h (FrW.rf h o))
    unfold livesV
    rw [if_neg (fun z => by rw [if_pos z] at c5; omega)]
end MWAY
