/-! OPERATIONS: rounds -/
set_option maxRecDepth 100000
theorem tb_low : (List.range 128).all (fun a => (List.range 7).all (fun m => decide (bt (a : Nat) (m : Nat) = 1 → ((List.range 7).all (fun j => decide (j < m → bt (a : Nat) (j : Nat) = 0)) = true) → bAnd (a : Nat) (-((a : Nat) : Int)) = bShl 1 (m : Nat)))) = true := by decide +kernel
theorem low_eq {a m : Int} (ha : 0 ≤ a ∧ a < 128) (hm : 0 ≤ m ∧ m < 7) (h1 : bt a m = 1) (h2 : ∀ j, 0 ≤ j → j < m → bt a j = 0) : bAnd a (-a) = bShl 1 m := by
  obtain ⟨a, rfl, ha'⟩ := nat_lt (n := 128) ha
  obtain ⟨m, rfl, hm'⟩ := nat_lt (n := 7) hm
  exact tb2 tb_low ha' hm' h1 (List.all_eq_true.mpr fun j _ => decide_eq_true fun z => h2 j (by omega) (by omega))
theorem least_bt {a : Int} (ha : 0 ≤ a ∧ a < 128) (h0 : a ≠ 0) : ∃ m, (0 ≤ m ∧ m < 7) ∧ bt a m = 1 ∧ ∀ j, 0 ≤ j → j < m → bt a j = 0 := by
  suffices H : ∀ (r k : Nat), r + k = 7 → (∀ j, 0 ≤ j → j < (k : Int) → bt a j = 0) → ∃ m, (0 ≤ m ∧ m < 7) ∧ bt a m = 1 ∧ ∀ j, 0 ≤ j → j < m → bt a j = 0 from H 7 0 rfl (fun j z0 z1 => by omega)
  intro r
  induction r with
  | zero =>
    intro k hk hz
    exact absurd (bt_ext ha ⟨by decide, by decide⟩ fun m z0 z1 => by rw [hz m z0 (by omega), bt_0 ⟨z0, z1⟩]) h0
  | succ r ih =>
    intro k hk hz
    rcases bt_01 a k with e | e
    · refine ih (k + 1) (by omega) fun j z0 z1 => ?_
      by_cases z : j = k
      · rw [z]; exact e
      · exact hz j z0 (by omega)
    · exact ⟨k, ⟨by omega, by omega⟩, e, hz⟩
section ROUNDS
variable {G : am_G} {d : Nat} {L : am_L} {h h' : am_H} {Q : am_O → am_L → am_H → Prop} {x o s t : Int} {T : Txt} {S : Row} {b q : Int}
theorem lkA_self (hT : TxtI T) {m : Int} (hm : 0 ≤ m ∧ m < 7) : ∀ n : Nat, bt (lkA T S m n) m = 1
  | 0 => by
    show bt (bShl 1 m) m = 1
    rw [(shl_bt hm hm).1, if_pos rfl]
  | n + 1 => (arR_ok hT (lkA_ok hT hm n)).2 m hm.1 hm.2 (lkA_self hT hm n)
/-- seven links from the least man of a set -/
def lkS (T : Txt) (S : Row) (a : Int) : Nat → Int
  | 0 => a
  | n + 1 => arR T S (lkS T S a n)
theorem lkS_A (T : Txt) (S : Row) (m : Int) : ∀ n, lkS T S (bShl 1 m) n = lkA T S m n
  | 0 => rfl
  | n + 1 => congrArg (arR T S) (lkS_A T S m n)
def rdF (T : Txt) (S : Row) : Nat → Int → Int
  | 0, _ => 0
  | r + 1, a => if a = 0 then 0 else 1 + rdF T S r (dif a (lkS T S (bAnd a (-a)) 7))
def roundsV (T : Txt) (S : Row) : Int := rdF T S 8 (outR T S)
theorem rd_step (hT : TxtI T) {a m : Int} (ha : 0 ≤ a ∧ a < 128) (hm : 0 ≤ m ∧ m < 7) (h1 : bt a m = 1) (h2 : ∀ j, 0 ≤ j → j < m → bt a j = 0) {r : Nat} (hr : bits a < r) :
    ∃ r' : Nat, r = r' + 1 ∧ (0 ≤ dif a (lkA T S m 7) ∧ dif a (lkA T S m 7) < 128) ∧ bits (dif a (lkA T S m 7)) < r' ∧ rdF T S r a = 1 + rdF T S r' (dif a (lkA T S m 7)) ∧ ∀ j, 0 ≤ j → j < m + 1 → bt (dif a (lkA T S m 7)) j = 0 := by
  have la := lkA_ok (S := S) hT hm 7
  have hd := fun j z0 z1 => (dif_bt ha la (m := j) ⟨z0, z1⟩)
  have b0 := bits_bd a
  have hself := lkA_self (S := S) hT hm 7
  have hne : a ≠ 0 := fun z => by rw [z, bt_0 hm] at h1; omega
  match r, hr with
  | 0, hr => exact absurd hr (by have := b0.1; simp; omega)
  | r + 1, hr =>
    refine ⟨r, rfl, (hd 0 (by omega) (by omega)).2, ?_, ?_, fun j z0 z1 => ?_⟩
    · have := sub_lt (hd 0 (by omega) (by omega)).2 ha (fun j z0 z1 z => by
        rw [(hd j z0 z1).1] at z
        split at z
        · rename_i y; exact y.1
        · omega) (fun z => by
        have e := (hd m hm.1 hm.2).1
        rw [z, h1, if_neg (fun y => by omega)] at e
        omega)
      omega
    · show (if a = 0 then 0 else _) = _
      rw [if_neg hne, low_eq ha hm h1 h2, lkS_A]
    · rw [(hd j z0 (by omega)).1]
      by_cases e : j = m
      · rw [e, if_neg (fun y => by omega)]
      · rw [if_neg (fun y => by have := h2 j z0 (by omega); omega)]
theorem rd_0 (T : Txt) (S : Row) (r : Nat) : rdF T S r 0 = 0 := by
  cases r <;> rfl
theorem dif_or {a c e : Int} (ha : 0 ≤ a ∧ a < 128) (hc : 0 ≤ c ∧ c < 128) (he : 0 ≤ e ∧ e < 128) : dif a (bOr c e) = dif (dif a c) e := by
  have h1 := (bOr_bt hc he (m := 0) ⟨by decide, by decide⟩).2
  have h2 := (dif_bt ha hc (m := 0) ⟨by decide, by decide⟩).2
  refine bt_ext (dif_bt ha h1 (m := 0) ⟨by decide, by decide⟩).2 (dif_bt h2 he (m := 0) ⟨by decide, by decide⟩).2 fun m z0 z1 => ?_
  rw [(dif_bt ha h1 (m := m) ⟨z0, z1⟩).1, (dif_bt h2 he (m := m) ⟨z0, z1⟩).1, (dif_bt ha hc (m := m) ⟨z0, z1⟩).1, (bOr_bt hc he (m := m) ⟨z0, z1⟩).1]
  have := bt_01 a m
  have := bt_01 c m
  have := bt_01 e m
  (repeat' split) <;> omega
set_option maxHeartbeats 4000000 in
theorem C_X0_rounds (hC : CoT L h x t T S) (hT : TxtI T) (hI : RowI T S b q) (k : Q (.inl [aI (roundsV T S)]) L h) : am_C G mX0_rounds (d + 430) [aR x] L h Q := by
  have hK := hC.mk
  have hM := hT.1
  have hcl := hC.cl
  have bo := outR_ok (S := S) hT
  have d0 : dif (outR T S) 0 = outR T S := by
    refine bt_ext (dif_bt bo.1 (c := 0) ⟨by decide, by decide⟩ (m := 0) ⟨by decide, by decide⟩).2 bo.1 fun m z0 z1 => ?_
    rw [(dif_bt bo.1 (c := 0) ⟨by decide, by decide⟩ (m := m) ⟨z0, z1⟩).1, bt_0 ⟨z0, z1⟩]
    have := bt_01 (outR T S) m
    split <;> omega
  refine x_start okX0_rounds rfl rfl rfl rfl ?_
  refine x_iconst dX0_rounds_0 ?_
  refine x_istore_1 dX0_rounds_1 rfl ?_
  refine x_iconst dX0_rounds_2 ?_
  refine x_istore_2 dX0_rounds_3 rfl ?_
  refine x_iconst dX0_rounds_4 ?_
  refine x_istore_3 dX0_rounds_5 rfl ?_
  skip
  refine x_up3 (tM T) (fun i sn n w => 0 ≤ i → i ≤ tM T → (0 ≤ sn ∧ sn < 128) → (0 ≤ n ∧ n ≤ i) → (∃ r : Nat, bits (dif (outR T S) sn) < r ∧ n + rdF T S r (dif (outR T S) sn) = roundsV T S) → (∀ j, 0 ≤ j → j < i → bt (dif (outR T S) sn) j = 0) → am_X G mX0_rounds (d + 430) 6 [aR x, aI sn, aI n, aI i, w] [] L h Q) (fun i sn n w ih g0 g1 g2 g3 g4 g5 => ?_) 0 0 0 aU (by omega) hM.1 ⟨by decide, by decide⟩ ⟨by omega, by omega⟩ ⟨8, by rw [d0]; have := bits_bd (outR T S); omega, by rw [d0]; show 0 + roundsV T S = _; omega⟩ (fun j z0 z1 => by omega)
  refine x_iload_3 dX0_rounds_6 ?_
  refine x_aload_0 dX0_rounds_7 ?_
  refine x_callV0 dX0_rounds_8 rfl okX0_men q1196 q1198 qs33 (by first | assumption | (exact MkL.k0 (by assumption))) am_k0 rfl (C_X0_men hC (x_k1 ?_))
  refine x_icmp_ge (tgt := 79) dX0_rounds_11 rfl (by omega) (by omega) (fun c11 => ?_) (fun c11 => ?_)
  · refine x_iload_2 dX0_rounds_79 ?_
    refine x_iret dX0_rounds_80 rfl ?_
    refine x_q1 ?_ k
    obtain ⟨r, r1, r2⟩ := g4
    have e0 : dif (outR T S) sn = 0 := by
      refine bt_ext (dif_bt bo.1 g2 (m := 0) ⟨by decide, by decide⟩).2 ⟨by decide, by decide⟩ fun m z0 z1 => ?_
      rw [bt_0 ⟨z0, z1⟩]
      by_cases e : m < i
      · exact g5 m z0 e
      · rw [(dif_bt bo.1 g2 (m := m) ⟨z0, z1⟩).1, if_neg (fun y => ?_)]
        have y1 := y.1
        rw [bo.2 m z0 z1, if_neg (fun z => by omega)] at y1
        omega
    rw [e0, rd_0] at r2
    omega
  · have hi : i < tM T := by omega
    have en := hC.rc.2.1 i g0 (by omega)
    have bn := hI.n60 hT i g0 (by omega)
    have hbt : bt sn i = bAnd (bShr sn i) 1 := rfl
    have bt1 := bt_01 sn i
    have be := (dif_bt bo.1 g2 (m := i) ⟨g0, by omega⟩).1
    have bo2 := bo.2 i g0 (by omega)
    have bo3 : bt (outR T S) i = 1 ↔ 0 < rN S i := by
      rw [bo2]
      constructor
      · intro z
        split at z
        · rename_i y
          exact of_decide_eq_true y.2
        · omega
      · intro z
        rw [if_pos ⟨hi, decide_eq_true z⟩]
    refine x_aload_0 dX0_rounds_14 ?_
    refine x_getR dX0_rounds_15 fl578_0 rfl (by first | (exact MkL.k0 (by assumption)) | (assumption)) (by first | (exact MkL.v_cloth (by assumption)) | (assumption)) ?_
    refine x_getR dX0_rounds_18 fl438_5 rfl (by first | (exact ClL.k0 (by assumption)) | (assumption)) (by first | (exact ClL.f2 (by assumption)) | (assumption)) ?_
    refine x_iload_3 dX0_rounds_21 ?_
    refine x_iald_ dX0_rounds_22 (by first | (exact ClL.k3 (by assumption)) | (assumption)) (by first | (exact ClL.r3 (by assumption) (by omega) (by omega)) | (omega)) (fun r22 => ?_)
    simp (disch := omega) only [en] at r22 ⊢
    refine x_if_eq (tgt := 73) dX0_rounds_23 rfl (by omega) (fun c23 => ?_) (fun c23 => ?_)
    · refine x_iinc3 dX0_rounds_73 rfl ?_
      refine x_goto (tgt := 6) dX0_rounds_76 rfl ?_
      refine ih hi _ _ _ (by omega) (by omega) g2 (by omega) g4 (fun j z0 z1 => ?_)
      by_cases e : j = i
      · rw [e, be, if_neg (fun y => by have := bo3.mp y.1; omega)]
      · exact g5 j z0 (by omega)
    · refine x_iload_1 dX0_rounds_26 ?_
      refine x_iload_3 dX0_rounds_27 ?_
      refine x_ishr dX0_rounds_28 ?_
      refine x_iconst dX0_rounds_29 ?_
      refine x_iand dX0_rounds_30 ?_
      refine x_iconst dX0_rounds_31 ?_
      refine x_icmp_ne (tgt := 38) dX0_rounds_32 rfl (by omega) (by omega) (fun c32 => ?_) (fun c32 => ?_)
      · have b1 : bt (outR T S) i = 1 := bo3.mpr (by omega)
        have b2 : bt (dif (outR T S) sn) i = 1 := by rw [be, if_pos ⟨b1, by omega⟩]
        have hi7 : 0 ≤ i ∧ i < 7 := ⟨g0, by omega⟩
        have hdf := (dif_bt bo.1 g2 (m := 0) ⟨by decide, by decide⟩).2
        refine x_iconst dX0_rounds_38 ?_
        refine x_iload_3 dX0_rounds_39 ?_
        refine x_ishl dX0_rounds_40 ?_
        refine x_istore4 dX0_rounds_41 rfl ?_
        suffices H : ∀ (r j : Nat), r + j = 7 → (j : Int) + 1 ≤ bits (lkA T S i j) → am_X G mX0_rounds (d + 430) 43 [aR x, aI sn, aI n, aI i, aI (lkA T S i j)] [] L h Q from H 7 0 rfl (links_one hi7)
        intro r
        induction r with
        | zero =>
          intro j z1 z2
          have := bits_bd (lkA T S i j)
          omega
        | succ r ihr =>
          intro j z1 z2
          have la := lkA_ok (S := S) hT hi7 j
          have lb := lkA_ok (S := S) hT hi7 (j + 1)
          refine x_aload_0 dX0_rounds_43 ?_
          refine x_iload4 dX0_rounds_44 ?_
          refine x_callV1 dX0_rounds_46 rfl okX0_around q1468 q1470 qs46 (by first | assumption | (exact MkL.k0 (by assumption))) am_k0 rfl (C_X0_around hC hT hI la (x_k1 ?_))
          show am_X G mX0_rounds _ 49 _ [aI (lkA T S i (j + 1))] _ _ _
          refine x_iload4 dX0_rounds_49 ?_
          refine x_icmp_eq (tgt := 65) dX0_rounds_51 rfl (by omega) (by omega) (fun c51 => ?_) (fun c51 => ?_)
          · have e7 : lkA T S i 7 = lkA T S i j := lkA_st (k := j) (by omega) 7 (by omega)
            rw [← e7]
            obtain ⟨r0, r1, r2⟩ := g4
            obtain ⟨r3, q1, q2, q3, q4, q5⟩ := rd_step (S := S) hT hdf hi7 b2 g5 r1
            have l7 := lkA_ok (S := S) hT hi7 7
            have edo := dif_or bo.1 g2 l7
            refine x_iload_1 dX0_rounds_65 ?_
            refine x_iload4 dX0_rounds_66 ?_
            refine x_ior dX0_rounds_68 ?_
            refine x_istore_1 dX0_rounds_69 rfl ?_
            refine x_iinc2 dX0_rounds_70 rfl ?_
            refine x_iinc3 dX0_rounds_73 rfl ?_
            refine x_goto (tgt := 6) dX0_rounds_76 rfl ?_
            refine ih hi _ _ _ (by omega) (by omega) (bOr_bt g2 l7 (m := 0) ⟨by decide, by decide⟩).2 (by omega) ⟨r3, by rw [edo]; exact q3, by rw [edo]; omega⟩ (fun j z0 z1 => by rw [edo]; exact q5 j z0 z1)
          · refine x_aload_0 dX0_rounds_54 ?_
            refine x_iload4 dX0_rounds_55 ?_
            refine x_callV1 dX0_rounds_57 rfl okX0_around q1468 q1470 qs46 (by first | assumption | (exact MkL.k0 (by assumption))) am_k0 rfl (C_X0_around hC hT hI la (x_k1 ?_))
            refine x_istore4 dX0_rounds_60 rfl ?_
            refine x_goto (tgt := 43) dX0_rounds_62 rfl ?_
            have hlt := sub_lt la lb (arR_ok hT la).2 (by omega)
            exact ihr (j + 1) (by omega) (by omega)
      · refine x_goto (tgt := 73) dX0_rounds_35 rfl ?_
        refine x_iinc3 dX0_rounds_73 rfl ?_
        refine x_goto (tgt := 6) dX0_rounds_76 rfl ?_
        refine ih hi _ _ _ (by omega) (by omega) g2 (by omega) g4 (fun j z0 z1 => ?_)
        by_cases e : j = i
        · rw [e, be, if_neg (fun y => by have := bo3.mp y.1; omega)]
        · exact g5 j z0 (by omega)
set_option maxHeartbeats 4000000 in
theorem C_X13_rounds (hC : TwT L h o s T S) (hT : TxtI T) (hI : RowI T S b q) (k : ∀ h', FrW h h' o → Q (.inl [aI (roundsV T S)]) L h') : am_C G mX13_rounds (d + 12) [aR o] L h Q := by
  have hM := hC.1
  have hL := hM.1
  have h7 := hT.1
  have bo := outR_ok (S := S) hT
  refine x_start okX13_rounds rfl rfl rfl rfl ?_
  refine x_aload_0 dX13_rounds_0 ?_
  refine x_callV0 dX13_rounds_1 rfl okX13_copies q1934 q1936 qs81 (by first | assumption | (exact MdL.k0 (by assumption))) am_k13 rfl (C_X13_copiesR hL hC.2 hI hT (fun h1 e1 f1 e2 e3 => (x_k0 ?_)))
  refine x_aload_0 dX13_rounds_4 ?_
  refine x_callV0 dX13_rounds_5 rfl okX13_fillsWaits q2046 q2048 qs95 (by first | assumption | (exact MdL.k0 (by assumption))) am_k13 rfl (C_X13_fillsWaits (hM.fr f1) hT e2 hI (fun h2 g1 g2 => (x_k1 ?_)))
  refine x_istore_1 dX13_rounds_8 rfl ?_
  refine x_iconst dX13_rounds_9 ?_
  refine x_istore_2 dX13_rounds_10 rfl ?_
  have f2 : FrW h1 h2 o := fun a i z => by rw [g1 a (by omega)]
  have hM2 := (hM.fr f1).fr f2
  have hR2 : RwF (h2 (o + 38)) (tM T) S := by rw [g1 _ (by omega)]; exact e2
  suffices H : ∀ (r : Nat) (a n : Int) (w1 w2 : AV), (0 ≤ a ∧ a < 128) → bits a < r → 0 ≤ n → n + r ≤ 8 → n + rdF T S r a = roundsV T S → am_X G mX13_rounds (d + 12) 11 [aR o, aI a, aI n, w1, w2] [] L h2 Q from H 8 _ 0 aU aU bo.1 (by have := bits_bd (outR T S); omega) (by omega) (by omega) (by show 0 + roundsV T S = _; omega)
  intro r
  induction r with
  | zero =>
    intro a n w1 w2 z1 z2
    have := bits_bd a
    exact absurd z2 (by simp; omega)
  | succ r ih =>
    intro a n w1 w2 z1 z2 z3 z4 z5
    refine x_iload_1 dX13_rounds_11 ?_
    refine x_if_eq (tgt := 54) dX13_rounds_12 rfl (by omega) (fun c12 => ?_) (fun c12 => ?_)
    · refine x_iload_2 dX13_rounds_54 ?_
      refine x_iret dX13_rounds_55 rfl ?_
      refine x_q1 ?_ (k h2 (f1.tr f2))
      rw [show a = 0 by omega, rd_0] at z5
      omega
    · obtain ⟨m, hm, m1, m2⟩ := least_bt z1 (by omega)
      have lw := low_eq z1 hm m1 m2
      obtain ⟨r3, q1, q2, q3, q4, q5⟩ := rd_step (S := S) hT z1 hm m1 m2 z2
      have er : r3 = r := by omega
      subst er
      refine x_iload_1 dX13_rounds_15 ?_
      refine x_iload_1 dX13_rounds_16 ?_
      refine x_ineg dX13_rounds_17 ?_
      refine x_iand dX13_rounds_18 ?_
      refine x_istore_3 dX13_rounds_19 rfl ?_
      refine x_iconst dX13_rounds_20 ?_
      refine x_istore4 dX13_rounds_21 rfl ?_
      rw [lw]
      refine x_up0 7 (fun i => 0 ≤ i → i ≤ 7 → am_X G mX13_rounds (d + 12) 23 [aR o, aI a, aI n, aI (lkA T S m i.toNat), aI i] [] L h2 Q) (fun i ihi y0 y1 => ?_) 0 (by omega) (by omega)
      refine x_iload4 dX13_rounds_23 ?_
      refine x_bipush dX13_rounds_25 rfl ?_
      refine x_icmp_ge (tgt := 42) dX13_rounds_27 rfl (by omega) (by omega) (fun c27 => ?_) (fun c27 => ?_)
      · have e7 : i.toNat = 7 := by omega
        rw [e7]
        refine x_iload_1 dX13_rounds_42 ?_
        refine x_iload_3 dX13_rounds_43 ?_
        refine x_iconst dX13_rounds_44 ?_
        refine x_ixor dX13_rounds_45 ?_
        refine x_iand dX13_rounds_46 ?_
        refine x_istore_1 dX13_rounds_47 rfl ?_
        refine x_iinc2 dX13_rounds_48 rfl ?_
        refine x_goto (tgt := 11) dX13_rounds_51 rfl ?_
        exact ih (dif a (lkA T S m 7)) _ _ _ q2 q3 (by omega) (by omega) (by omega)
      · refine x_aload_0 dX13_rounds_30 ?_
        refine x_iload_3 dX13_rounds_31 ?_
        refine x_callV1 dX13_rounds_32 rfl okX13_linkedTo q2185 q2187 qs109 (by first | assumption | (exact MdL.k0 (by assumption))) am_k13 rfl (C_X13_linkedTo hM2 hR2 hT hI (lkA_ok hT hm i.toNat) (x_k1 ?_))
        refine x_istore_3 dX13_rounds_35 rfl ?_
        refine x_iinc4 dX13_rounds_36 rfl ?_
        refine x_goto (tgt := 23) dX13_rounds_39 rfl ?_
        have := ihi (by omega) (by omega) (by omega)
        rw [show (i + 1).toNat = i.toNat + 1 by omega] at this
        exact this
end ROUNDS
