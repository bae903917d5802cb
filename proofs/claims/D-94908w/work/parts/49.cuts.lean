/-! CUTS -/
set_option maxRecDepth 100000
def bcE (i : Int) : Int :=
  (fun i1 => (fun i2 => (fun i3 => (fun i4 => bAnd (i4 + bUshr i4 16) 63) (i3 + bUshr i3 8)) (bAnd (i2 + bUshr i2 4) 252645135)) (bAnd i1 858993459 + bAnd (bUshr i1 2) 858993459)) (i - bAnd (bUshr i 1) 1431655765)
theorem tb_bc : (List.range 128).all (fun a => decide (bcE (a : Nat) = bits (a : Nat))) = true := by decide +kernel
theorem tb_sub : (List.range 128).all (fun a => (List.range 128).all (fun c => decide (dif (a : Nat) (c : Nat) = 0 ∧ bits (a : Nat) = bits (c : Nat) → a = c))) = true := by decide +kernel
theorem sub_eq {a c : Int} (ha : 0 ≤ a ∧ a < 128) (hc : 0 ≤ c ∧ c < 128) (h : dif a c = 0) (hb : bits a = bits c) : a = c := by
  obtain ⟨a, rfl, ha'⟩ := nat_lt (n := 128) ha
  obtain ⟨c, rfl, hc'⟩ := nat_lt (n := 128) hc
  rw [tb2 tb_sub ha' hc' ⟨h, hb⟩]
section CUTS
variable {G : am_G} {d : Nat} {L : am_L} {h h' : am_H} {Q : am_O → am_L → am_H → Prop} {x o s t : Int} {T : Txt} {S : Row} {b q : Int}
theorem C_J16_bitCount {a : Int} (ha : 0 ≤ a ∧ a < 128) (k : Q (.inl [aI (bits a)]) L h) : am_C G mJ16_bitCount (d + 1) [aI a] L h Q := by
  refine x_start okJ16_bitCount rfl rfl rfl rfl ?_
  refine x_iload_0 dJ16_bitCount_0 ?_
  refine x_iload_0 dJ16_bitCount_1 ?_
  refine x_iconst dJ16_bitCount_2 ?_
  refine x_iushr dJ16_bitCount_3 ?_
  refine x_ldcw (n := 1431655765) dJ16_bitCount_4 q1343 ?_
  refine x_iand dJ16_bitCount_7 ?_
  refine x_isub dJ16_bitCount_8 ?_
  refine x_istore_0 dJ16_bitCount_9 ?_
  refine x_iload_0 dJ16_bitCount_10 ?_
  refine x_ldcw (n := 858993459) dJ16_bitCount_11 q1344 ?_
  refine x_iand dJ16_bitCount_14 ?_
  refine x_iload_0 dJ16_bitCount_15 ?_
  refine x_iconst dJ16_bitCount_16 ?_
  refine x_iushr dJ16_bitCount_17 ?_
  refine x_ldcw (n := 858993459) dJ16_bitCount_18 q1344 ?_
  refine x_iand dJ16_bitCount_21 ?_
  refine x_iadd dJ16_bitCount_22 ?_
  refine x_istore_0 dJ16_bitCount_23 ?_
  refine x_iload_0 dJ16_bitCount_24 ?_
  refine x_iload_0 dJ16_bitCount_25 ?_
  refine x_iconst dJ16_bitCount_26 ?_
  refine x_iushr dJ16_bitCount_27 ?_
  refine x_iadd dJ16_bitCount_28 ?_
  refine x_ldcw (n := 252645135) dJ16_bitCount_29 q1345 ?_
  refine x_iand dJ16_bitCount_32 ?_
  refine x_istore_0 dJ16_bitCount_33 ?_
  refine x_iload_0 dJ16_bitCount_34 ?_
  refine x_iload_0 dJ16_bitCount_35 ?_
  refine x_bipush dJ16_bitCount_36 rfl ?_
  refine x_iushr dJ16_bitCount_38 ?_
  refine x_iadd dJ16_bitCount_39 ?_
  refine x_istore_0 dJ16_bitCount_40 ?_
  refine x_iload_0 dJ16_bitCount_41 ?_
  refine x_iload_0 dJ16_bitCount_42 ?_
  refine x_bipush dJ16_bitCount_43 rfl ?_
  refine x_iushr dJ16_bitCount_45 ?_
  refine x_iadd dJ16_bitCount_46 ?_
  refine x_istore_0 dJ16_bitCount_47 ?_
  refine x_iload_0 dJ16_bitCount_48 ?_
  refine x_bipush dJ16_bitCount_49 rfl ?_
  refine x_iand dJ16_bitCount_51 ?_
  refine x_iret dJ16_bitCount_52 rfl ?_
  refine x_q1 ?_ k
  show bcE a = bits a
  obtain ⟨a, rfl, ha'⟩ := nat_lt (n := 128) ha
  exact tb1 tb_bc ha'
theorem C_X13_bits {a : Int} (ha : 0 ≤ a ∧ a < 128) (k : Q (.inl [aI (bits a)]) L h) : am_C G mX13_bits (d + 1) [aI a] L h Q := by
  refine x_start okX13_bits rfl rfl rfl rfl ?_
  refine x_iconst dX13_bits_0 ?_
  refine x_istore_1 dX13_bits_1 rfl ?_
  refine x_iconst dX13_bits_2 ?_
  refine x_istore_2 dX13_bits_3 rfl ?_
  skip
  refine x_up0 7 (fun i => 0 ≤ i → i ≤ 7 → am_X G mX13_bits (d + 1) 4 [aI a, aI (sumI i (bt a)), aI i] [] L h Q) (fun i ih g0 g1 => ?_) 0 (by omega) (by omega)
  refine x_iload_2 dX13_bits_4 ?_
  refine x_bipush dX13_bits_5 rfl ?_
  refine x_icmp_ge (tgt := 24) dX13_bits_7 rfl (by omega) (by omega) (fun c7 => ?_) (fun c7 => ?_)
  · refine x_iload_1 dX13_bits_24 ?_
    refine x_iret dX13_bits_25 rfl ?_
    rw [show i = 7 by omega]
    exact k
  · refine x_iload_1 dX13_bits_10 ?_
    refine x_iload_0 dX13_bits_11 ?_
    refine x_iload_2 dX13_bits_12 ?_
    refine x_ishr dX13_bits_13 ?_
    refine x_iconst dX13_bits_14 ?_
    refine x_iand dX13_bits_15 ?_
    refine x_iadd dX13_bits_16 ?_
    refine x_istore_1 dX13_bits_17 rfl ?_
    refine x_iinc2 dX13_bits_18 rfl ?_
    refine x_goto (tgt := 4) dX13_bits_21 rfl ?_
    have := ih (by omega) (by omega) (by omega)
    rw [sumI_s _ g0] at this
    exact this
/-- how many pieces lie there of the men of a set -/
def pcsR (T : Txt) (S : Row) (a : Int) : Int := sumI (tM T) (fun m => if bt a m = 1 then rN S m else 0)
theorem pcs_bd (hT : TxtI T) (hI : RowI T S b q) (a : Int) {n : Int} (hn : 0 ≤ n ∧ n ≤ tM T) : 0 ≤ sumI n (fun m => if bt a m = 1 then rN S m else 0) ∧ sumI n (fun m => if bt a m = 1 then rN S m else 0) ≤ 420 := by
  have hM := hT.1
  have := sumI_bd (n := n) (b := 60) (f := fun m => if bt a m = 1 then rN S m else 0) hn.1 (fun m z0 z1 => by
    have := hI.n60 hT m z0 (by omega)
    split <;> omega)
  omega
theorem C_X0_piecesOf {a : Int} (hC : CoT L h x t T S) (hT : TxtI T) (hI : RowI T S b q) (ha : 0 ≤ a ∧ a < 128) (k : Q (.inl [aI (pcsR T S a)]) L h) : am_C G mX0_piecesOf (d + 3) [aR x, aI a] L h Q := by
  have hK := hC.mk
  have hM := hT.1
  have hcl := hC.cl
  refine x_start okX0_piecesOf rfl rfl rfl rfl ?_
  refine x_iconst dX0_piecesOf_0 ?_
  refine x_istore_2 dX0_piecesOf_1 rfl ?_
  refine x_iconst dX0_piecesOf_2 ?_
  refine x_istore_3 dX0_piecesOf_3 rfl ?_
  skip
  refine x_up0 (tM T) (fun i => 0 ≤ i → i ≤ tM T → am_X G mX0_piecesOf (d + 3) 4 [aR x, aI a, aI (sumI i (fun m => if bt a m = 1 then rN S m else 0)), aI i] [] L h Q) (fun i ih g0 g1 => ?_) 0 (by omega) hM.1
  have hbt : bt a i = bAnd (bShr a i) 1 := rfl
  have bt1 := bt_01 a i
  have nxt : ∀ v, i < tM T → v = sumI (i + 1) (fun m => if bt a m = 1 then rN S m else 0) → am_X G mX0_piecesOf (d + 3) 4 [aR x, aI a, aI v, aI (i + 1)] [] L h Q := fun v z e => by rw [e]; exact ih z (by omega) (by omega)
  refine x_iload_3 dX0_piecesOf_4 ?_
  refine x_aload_0 dX0_piecesOf_5 ?_
  refine x_callV0 dX0_piecesOf_6 rfl okX0_men q1196 q1198 qs33 (by first | assumption | (exact MkL.k0 (by assumption))) am_k0 rfl (C_X0_men hC (x_k1 ?_))
  refine x_icmp_ge (tgt := 43) dX0_piecesOf_9 rfl (by omega) (by omega) (fun c9 => ?_) (fun c9 => ?_)
  · refine x_iload_2 dX0_piecesOf_43 ?_
    refine x_iret dX0_piecesOf_44 rfl ?_
    rw [show i = tM T by omega]
    exact k
  · have en := hC.rc.2.1 i g0 (by omega)
    refine x_iload_2 dX0_piecesOf_12 ?_
    refine x_iload_1 dX0_piecesOf_13 ?_
    refine x_iload_3 dX0_piecesOf_14 ?_
    refine x_ishr dX0_piecesOf_15 ?_
    refine x_iconst dX0_piecesOf_16 ?_
    refine x_iand dX0_piecesOf_17 ?_
    refine x_iconst dX0_piecesOf_18 ?_
    refine x_icmp_ne (tgt := 34) dX0_piecesOf_19 rfl (by omega) (by omega) (fun c19 => ?_) (fun c19 => ?_)
    · refine x_iconst dX0_piecesOf_34 ?_
      refine x_iadd dX0_piecesOf_35 ?_
      refine x_istore_2 dX0_piecesOf_36 rfl ?_
      refine x_iinc3 dX0_piecesOf_37 rfl ?_
      refine x_goto (tgt := 4) dX0_piecesOf_40 rfl ?_
      refine nxt _ (by omega) ?_
      rw [sumI_s _ g0]
      first | (rw [if_pos (by omega)]; done) | (rw [if_neg (by omega)]; done)
    · refine x_aload_0 dX0_piecesOf_22 ?_
      refine x_getR dX0_piecesOf_23 fl578_0 rfl (by first | (exact MkL.k0 (by assumption)) | (assumption)) (by first | (exact MkL.v_cloth (by assumption)) | (assumption)) ?_
      refine x_getR dX0_piecesOf_26 fl438_5 rfl (by first | (exact ClL.k0 (by assumption)) | (assumption)) (by first | (exact ClL.f2 (by assumption)) | (assumption)) ?_
      refine x_iload_3 dX0_piecesOf_29 ?_
      refine x_iald_ dX0_piecesOf_30 (by first | (exact ClL.k3 (by assumption)) | (assumption)) (by first | (exact ClL.r3 (by assumption) (by omega) (by omega)) | (omega)) (fun r30 => ?_)
      simp (disch := omega) only [en] at r30 ⊢
      refine x_goto (tgt := 35) dX0_piecesOf_31 rfl ?_
      refine x_iadd dX0_piecesOf_35 ?_
      refine x_istore_2 dX0_piecesOf_36 rfl ?_
      refine x_iinc3 dX0_piecesOf_37 rfl ?_
      refine x_goto (tgt := 4) dX0_piecesOf_40 rfl ?_
      refine nxt _ (by omega) ?_
      rw [sumI_s _ g0]
      first | (rw [if_pos (by omega)]; done) | (rw [if_neg (by omega)]; done)
theorem C_X13_piecesOf {a : Int} (hM : MdT L h o s T) (hR : RwF (h (o + 38)) (tM T) S) (hT : TxtI T) (hI : RowI T S b q) (ha : 0 ≤ a ∧ a < 128) (k : Q (.inl [aI (pcsR T S a)]) L h) : am_C G mX13_piecesOf (d + 1) [aR o, aI a] L h Q := by
  have hL := hM.1
  have hs := hM.2.1
  have hlv := hM.2.2.1
  have hmen := hM.2.2.2.1
  have hM7 := hT.1
  refine x_start okX13_piecesOf rfl rfl rfl rfl ?_
  refine x_iconst dX13_piecesOf_0 ?_
  refine x_istore_2 dX13_piecesOf_1 rfl ?_
  refine x_iconst dX13_piecesOf_2 ?_
  refine x_istore_3 dX13_piecesOf_3 rfl ?_
  skip
  refine x_up0 (tM T) (fun i => 0 ≤ i → i ≤ tM T → am_X G mX13_piecesOf (d + 1) 4 [aR o, aI a, aI (sumI i (fun m => if bt a m = 1 then rN S m else 0)), aI i] [] L h Q) (fun i ih g0 g1 => ?_) 0 (by omega) hM7.1
  have hbt : bt a i = bAnd (bShr a i) 1 := rfl
  have bt1 := bt_01 a i
  have nxt : ∀ v, i < tM T → v = sumI (i + 1) (fun m => if bt a m = 1 then rN S m else 0) → am_X G mX13_piecesOf (d + 1) 4 [aR o, aI a, aI v, aI (i + 1)] [] L h Q := fun v z e => by rw [e]; exact ih z (by omega) (by omega)
  refine x_iload_3 dX13_piecesOf_4 ?_
  refine x_aload_0 dX13_piecesOf_5 ?_
  refine x_getR dX13_piecesOf_6 fl1598_13 rfl (by first | (exact MdL.k0 (by assumption)) | (assumption)) (by first | (exact MdL.v_men (by assumption)) | (assumption)) ?_
  refine x_aload_0 dX13_piecesOf_9 ?_
  refine x_getI_ dX13_piecesOf_10 fl1592_13 (by first | (exact MdL.k0 (by assumption)) | (assumption)) (fun r10 => ?_)
  rw [hlv] at r10 ⊢
  refine x_iald_ dX13_piecesOf_13 (by first | (exact MdL.k_men (by assumption)) | (assumption)) (by first | (exact MdL.x_men (by assumption) (by omega) (by omega)) | (omega)) (fun r13 => ?_)
  rw [hmen] at r13 ⊢
  refine x_icmp_ge (tgt := 44) dX13_piecesOf_14 rfl (by omega) (by omega) (fun c14 => ?_) (fun c14 => ?_)
  · refine x_iload_2 dX13_piecesOf_44 ?_
    refine x_iret dX13_piecesOf_45 rfl ?_
    rw [show i = tM T by omega]
    exact k
  · have en := (hR.1 i g0 (by omega)).1
    refine x_iload_1 dX13_piecesOf_17 ?_
    refine x_iload_3 dX13_piecesOf_18 ?_
    refine x_ishr dX13_piecesOf_19 ?_
    refine x_iconst dX13_piecesOf_20 ?_
    refine x_iand dX13_piecesOf_21 ?_
    refine x_iconst dX13_piecesOf_22 ?_
    refine x_icmp_ne (tgt := 38) dX13_piecesOf_23 rfl (by omega) (by omega) (fun c23 => ?_) (fun c23 => ?_)
    · refine x_iinc3 dX13_piecesOf_38 rfl ?_
      refine x_goto (tgt := 4) dX13_piecesOf_41 rfl ?_
      refine nxt _ (by omega) ?_
      rw [sumI_s _ g0]
      first | (rw [if_pos (by omega)]; done) | (rw [if_neg (by omega)]; omega)
    · refine x_iload_2 dX13_piecesOf_26 ?_
      refine x_aload_0 dX13_piecesOf_27 ?_
      refine x_getR dX13_piecesOf_28 fl1630_13 rfl (by first | (exact MdL.k0 (by assumption)) | (assumption)) (by first | (exact MdL.v_row (by assumption)) | (assumption)) ?_
      refine x_bipush dX13_piecesOf_31 rfl ?_
      refine x_iload_3 dX13_piecesOf_33 ?_
      refine x_iadd dX13_piecesOf_34 ?_
      refine x_iald_ dX13_piecesOf_35 (by first | (exact MdL.k_row (by assumption)) | (assumption)) (by first | (exact MdL.x_row (by assumption) (by omega) (by omega)) | (omega)) (fun r35 => ?_)
      simp (disch := omega) only [en] at r35 ⊢
      refine x_iadd dX13_piecesOf_36 ?_
      refine x_istore_2 dX13_piecesOf_37 rfl ?_
      refine x_iinc3 dX13_piecesOf_38 rfl ?_
      refine x_goto (tgt := 4) dX13_piecesOf_41 rfl ?_
      refine nxt _ (by omega) ?_
      rw [sumI_s _ g0]
      first | (rw [if_pos (by omega)]; done) | (rw [if_neg (by omega)]; omega)
/-- the best cut among the first n sets -/
def lcut (T : Txt) (S : Row) : Nat → Int
  | 0 => outR T S
  | n + 1 => if dif n (outR T S) = 0 ∧ ordR T S (dif (outR T S) n) ≠ 0 ∧ (bits n < bits (lcut T S n) ∨ bits n = bits (lcut T S n) ∧ pcsR T S n < pcsR T S (lcut T S n)) then n else lcut T S n
theorem lcut_ok (hT : TxtI T) : ∀ n : Nat, n ≤ 128 → (0 ≤ lcut T S n ∧ lcut T S n < 128) ∧ (lcut T S n = outR T S ∨ lcut T S n < n)
  | 0, _ => ⟨(outR_ok hT).1, Or.inl rfl⟩
  | n + 1, hn => by
    obtain ⟨a1, a2⟩ := lcut_ok hT n (by omega)
    unfold lcut
    split
    · exact ⟨by omega, Or.inr (by omega)⟩
    · exact ⟨a1, by omega⟩
theorem lcut_pw (hT : TxtI T) : ∀ n : Nat, n ≤ 128 → bShl 1 (tM T) ≤ n → lcut T S n = lcut T S (bShl 1 (tM T)).toNat := by
  intro n hn h1
  have bp := pw_bd hT.1
  have bo := outR_ok (S := S) hT
  obtain ⟨k, hk⟩ : ∃ k : Nat, n = (bShl 1 (tM T)).toNat + k := ⟨n - (bShl 1 (tM T)).toNat, by omega⟩
  subst hk
  induction k with
  | zero => rfl
  | succ k ih =>
    rw [← ih (by omega) (by omega)]
    show (if _ then _ else _) = _
    refine if_neg (fun z => ?_)
    generalize hz : (((bShl 1 (tM T)).toNat + k : Nat) : Int) = a at z
    have : a < bShl 1 (tM T) := by
      refine pw_lt hT.1 ⟨by omega, by omega⟩ (fun m z0 z1 => ?_)
      have e := (dif_bt (a := a) ⟨by omega, by omega⟩ bo.1 (m := m) ⟨by have := hT.1; omega, z1⟩).1
      rw [z.1, bt_0 ⟨by have := hT.1; omega, z1⟩, bo.2 m (by have := hT.1; omega) z1, if_neg (show ¬ (m < tM T ∧ outP S m = true) from fun y => by omega)] at e
      have := bt_01 a m
      split at e
      · omega
      · rename_i y
        omega
    omega
def cutsV (T : Txt) (S : Row) (w : Int) : Int := if w = 0 then bits (lcut T S 128) else if w = 1 then pcsR T S (lcut T S 128) else if w = 2 then lcut T S 128 else -1
theorem lcut_s {i : Int} (h : 0 ≤ i) : lcut T S (i + 1).toNat = if dif i (outR T S) = 0 ∧ ordR T S (dif (outR T S) i) ≠ 0 ∧ (bits i < bits (lcut T S i.toNat) ∨ bits i = bits (lcut T S i.toNat) ∧ pcsR T S i < pcsR T S (lcut T S i.toNat)) then i else lcut T S i.toNat := by
  rw [show (i + 1).toNat = i.toNat + 1 by omega]
  show (if dif (i.toNat : Nat) _ = 0 ∧ ordR T S (dif _ (i.toNat : Nat)) ≠ 0 ∧ (bits (i.toNat : Nat) < _ ∨ bits (i.toNat : Nat) = _ ∧ pcsR T S (i.toNat : Nat) < _) then ((i.toNat : Nat) : Int) else _) = _
  rw [show ((i.toNat : Nat) : Int) = i by omega]
set_option maxHeartbeats 8000000 in
theorem C_X0_leastCut (hC : CoT L h x t T S) (hT : TxtI T) (hI : RowI T S b q) (k : ∀ h', FrS h h' x → Q (.inl [aI (lcut T S 128)]) L h') : am_C G mX0_leastCut (d + 440) [aR x] L h Q := by
  have hK := hC.mk
  have hM := hT.1
  have bo := outR_ok (S := S) hT
  have bl := outR_lt (S := S) hT
  have bp := pw_bd hT.1
  refine x_start okX0_leastCut rfl rfl rfl rfl ?_
  refine x_aload_0 dX0_leastCut_0 ?_
  refine x_callV0 dX0_leastCut_1 rfl okX0_laysWaits q1323 q1325 qs36 (by first | assumption | (exact MkL.k0 (by assumption))) am_k0 rfl (C_X0_laysWaits (d := d + 7) hC hT hI (fun h1 q1 q2 q3 => (x_k1 ?_)))
  refine x_istore_1 dX0_leastCut_4 rfl ?_
  refine x_iload_1 dX0_leastCut_5 ?_
  refine x_istore_2 dX0_leastCut_6 rfl ?_
  refine x_iconst dX0_leastCut_7 ?_
  refine x_istore_3 dX0_leastCut_8 rfl ?_
  have hC1 := hC.fr q1
  refine x_up2 (bShl 1 (tM T)) (fun i w1 w2 => 0 ≤ i → i ≤ bShl 1 (tM T) → am_X G mX0_leastCut (d + 440) 9 [aR x, aI (outR T S), aI (lcut T S i.toNat), aI i, w1, w2] [] L h1 Q) (fun i w1 w2 ih g0 g1 => ?_) 0 _ _ (by omega) (by omega)
  obtain ⟨lb, lo⟩ := lcut_ok (S := S) hT i.toNat (by omega)
  have nxt : ∀ v w1 w2, i < bShl 1 (tM T) → v = lcut T S (i + 1).toNat → am_X G mX0_leastCut (d + 440) 9 [aR x, aI (outR T S), aI v, aI (i + 1), w1, w2] [] L h1 Q := fun v w1 w2 z e => by rw [e]; exact ih z _ _ (by omega) (by omega)
  refine x_iload_3 dX0_leastCut_9 ?_
  refine x_iconst dX0_leastCut_10 ?_
  refine x_aload_0 dX0_leastCut_11 ?_
  refine x_callV0 dX0_leastCut_12 rfl okX0_men q1196 q1198 qs33 (by first | assumption | (exact MkL.k0 (by assumption))) am_k0 rfl (C_X0_men hC1 (x_k1 ?_))
  refine x_ishl dX0_leastCut_15 ?_
  refine x_icmp_ge (tgt := 108) dX0_leastCut_16 rfl (by omega) (by omega) (fun c16 => ?_) (fun c16 => ?_)
  · refine x_iload_2 dX0_leastCut_108 ?_
    refine x_iret dX0_leastCut_109 rfl ?_
    rw [show i = bShl 1 (tM T) by omega, ← lcut_pw hT 128 (by omega) (by omega)]
    exact k h1 q1
  · have hi : i < bShl 1 (tM T) := by omega
    have hi2 : 0 ≤ i ∧ i < 128 := by omega
    have d1 : dif i (outR T S) = bAnd i (bXor (outR T S) (-1)) := rfl
    have d2 : dif (outR T S) i = bAnd (outR T S) (bXor i (-1)) := rfl
    have d3 := (dif_bt hi2 bo.1 (m := 0) ⟨by decide, by decide⟩).2
    have d4 := (dif_bt bo.1 hi2 (m := 0) ⟨by decide, by decide⟩).2
    have d5 : dif (outR T S) i < bShl 1 (tM T) := pw_lt hT.1 d4 (fun m z0 z1 => by
      rw [(dif_bt bo.1 hi2 (m := m) ⟨by omega, z1⟩).1, bo.2 m (by omega) z1, if_neg (show ¬ (m < tM T ∧ outP S m = true) from fun y => by omega), if_neg (by omega)])
    have e3 : h1 (x + 182) (bAnd (outR T S) (bXor i (-1))) = ordR T S (dif (outR T S) i) := q3 _ d4.1 d5
    have bb1 := bits_bd i
    have bb2 := bits_bd (lcut T S i.toNat)
    have pp1 := pcs_bd hT hI i (n := tM T) ⟨hM.1, by omega⟩
    have pp2 := pcs_bd hT hI (lcut T S i.toNat) (n := tM T) ⟨hM.1, by omega⟩
    have pe1 : pcsR T S i = sumI (tM T) (fun m => if bt i m = 1 then rN S m else 0) := rfl
    have pe2 : pcsR T S (lcut T S i.toNat) = sumI (tM T) (fun m => if bt (lcut T S i.toNat) m = 1 then rN S m else 0) := rfl
    have br := ordR_bd (S := S) hT d4
    have tie : dif i (outR T S) = 0 → bits i = bits (lcut T S i.toNat) → ¬ i < lcut T S i.toNat := fun z1 z2 z3 => by
      rcases lo with lo | lo
      · rw [lo] at z2 z3
        have := sub_eq hi2 bo.1 z1 z2
        omega
      · omega
    refine x_iload_3 dX0_leastCut_19 ?_
    refine x_iload_1 dX0_leastCut_20 ?_
    refine x_iconst dX0_leastCut_21 ?_
    refine x_ixor dX0_leastCut_22 ?_
    refine x_iand dX0_leastCut_23 ?_
    refine x_if_ne (tgt := 102) dX0_leastCut_24 rfl (by omega) (fun c24 => ?_) (fun c24 => ?_)
    · refine x_iinc3 dX0_leastCut_102 rfl ?_
      refine x_goto (tgt := 9) dX0_leastCut_105 rfl ?_
      refine nxt _ _ _ hi ?_
      rw [lcut_s g0]
      first | (rw [if_neg (fun z => by omega)]; done) | (rw [if_pos ⟨by omega, by omega, by omega⟩]; done) | (exfalso; exact tie (by omega) (by omega) (by omega))
    · refine x_aload_0 dX0_leastCut_27 ?_
      refine x_getR dX0_leastCut_28 fl585_0 rfl (by first | (exact MkL.k0 (by assumption)) | (assumption)) (by first | (exact MkL.v_ways (by assumption)) | (assumption)) ?_
      refine x_iload_1 dX0_leastCut_31 ?_
      refine x_iload_3 dX0_leastCut_32 ?_
      refine x_iconst dX0_leastCut_33 ?_
      refine x_ixor dX0_leastCut_34 ?_
      refine x_iand dX0_leastCut_35 ?_
      refine x_iald_ dX0_leastCut_36 (by first | (exact MkL.k_ways (by assumption)) | (assumption)) (by first | (exact MkL.x_ways (by assumption) (by omega) (by omega)) | (omega)) (fun r36 => ?_)
      rw [e3] at r36 ⊢
      refine x_if_ne (tgt := 43) dX0_leastCut_37 rfl (by omega) (fun c37 => ?_) (fun c37 => ?_)
      · refine x_iload_3 dX0_leastCut_43 ?_
        refine x_callS1 dX0_leastCut_44 rfl okJ16_bitCount q1340 q1341 rfl (C_J16_bitCount (by assumption) (x_k1 ?_))
        refine x_istore4 dX0_leastCut_47 rfl ?_
        refine x_iload_2 dX0_leastCut_49 ?_
        refine x_callS1 dX0_leastCut_50 rfl okJ16_bitCount q1340 q1341 rfl (C_J16_bitCount (by assumption) (x_k1 ?_))
        refine x_istore5 dX0_leastCut_53 rfl ?_
        refine x_iload4 dX0_leastCut_55 ?_
        refine x_iload5 dX0_leastCut_57 ?_
        refine x_icmp_lt (tgt := 100) dX0_leastCut_59 rfl (by omega) (by omega) (fun c59 => ?_) (fun c59 => ?_)
        · refine x_iload_3 dX0_leastCut_100 ?_
          refine x_istore_2 dX0_leastCut_101 rfl ?_
          refine x_iinc3 dX0_leastCut_102 rfl ?_
          refine x_goto (tgt := 9) dX0_leastCut_105 rfl ?_
          refine nxt _ _ _ hi ?_
          rw [lcut_s g0]
          first | (rw [if_neg (fun z => by omega)]; done) | (rw [if_pos ⟨by omega, by omega, by omega⟩]; done) | (exfalso; exact tie (by omega) (by omega) (by omega))
        · refine x_iload4 dX0_leastCut_62 ?_
          refine x_iload5 dX0_leastCut_64 ?_
          refine x_icmp_ne (tgt := 102) dX0_leastCut_66 rfl (by omega) (by omega) (fun c66 => ?_) (fun c66 => ?_)
          · refine x_iinc3 dX0_leastCut_102 rfl ?_
            refine x_goto (tgt := 9) dX0_leastCut_105 rfl ?_
            refine nxt _ _ _ hi ?_
            rw [lcut_s g0]
            first | (rw [if_neg (fun z => by omega)]; done) | (rw [if_pos ⟨by omega, by omega, by omega⟩]; done) | (exfalso; exact tie (by omega) (by omega) (by omega))
          · refine x_aload_0 dX0_leastCut_69 ?_
            refine x_iload_3 dX0_leastCut_70 ?_
            refine x_callV1 dX0_leastCut_71 rfl okX0_piecesOf q1346 q1348 qs38 (by first | assumption | (exact MkL.k0 (by assumption))) am_k0 rfl (C_X0_piecesOf hC1 hT hI hi2 (x_k1 ?_))
            refine x_aload_0 dX0_leastCut_74 ?_
            refine x_iload_2 dX0_leastCut_75 ?_
            refine x_callV1 dX0_leastCut_76 rfl okX0_piecesOf q1346 q1348 qs38 (by first | assumption | (exact MkL.k0 (by assumption))) am_k0 rfl (C_X0_piecesOf hC1 hT hI lb (x_k1 ?_))
            refine x_icmp_lt (tgt := 100) dX0_leastCut_79 rfl (by omega) (by omega) (fun c79 => ?_) (fun c79 => ?_)
            · refine x_iload_3 dX0_leastCut_100 ?_
              refine x_istore_2 dX0_leastCut_101 rfl ?_
              refine x_iinc3 dX0_leastCut_102 rfl ?_
              refine x_goto (tgt := 9) dX0_leastCut_105 rfl ?_
              refine nxt _ _ _ hi ?_
              rw [lcut_s g0]
              first | (rw [if_neg (fun z => by omega)]; done) | (rw [if_pos ⟨by omega, by omega, by omega⟩]; done) | (exfalso; exact tie (by omega) (by omega) (by omega))
            · refine x_aload_0 dX0_leastCut_82 ?_
              refine x_iload_3 dX0_leastCut_83 ?_
              refine x_callV1 dX0_leastCut_84 rfl okX0_piecesOf q1346 q1348 qs38 (by first | assumption | (exact MkL.k0 (by assumption))) am_k0 rfl (C_X0_piecesOf hC1 hT hI hi2 (x_k1 ?_))
              refine x_aload_0 dX0_leastCut_87 ?_
              refine x_iload_2 dX0_leastCut_88 ?_
              refine x_callV1 dX0_leastCut_89 rfl okX0_piecesOf q1346 q1348 qs38 (by first | assumption | (exact MkL.k0 (by assumption))) am_k0 rfl (C_X0_piecesOf hC1 hT hI lb (x_k1 ?_))
              refine x_icmp_ne (tgt := 102) dX0_leastCut_92 rfl (by omega) (by omega) (fun c92 => ?_) (fun c92 => ?_)
              · refine x_iinc3 dX0_leastCut_102 rfl ?_
                refine x_goto (tgt := 9) dX0_leastCut_105 rfl ?_
                refine nxt _ _ _ hi ?_
                rw [lcut_s g0]
                first | (rw [if_neg (fun z => by omega)]; done) | (rw [if_pos ⟨by omega, by omega, by omega⟩]; done) | (exfalso; exact tie (by omega) (by omega) (by omega))
              · refine x_iload_3 dX0_leastCut_95 ?_
                refine x_iload_2 dX0_leastCut_96 ?_
                refine x_icmp_ge (tgt := 102) dX0_leastCut_97 rfl (by omega) (by omega) (fun c97 => ?_) (fun c97 => ?_)
                · refine x_iinc3 dX0_leastCut_102 rfl ?_
                  refine x_goto (tgt := 9) dX0_leastCut_105 rfl ?_
                  refine nxt _ _ _ hi ?_
                  rw [lcut_s g0]
                  first | (rw [if_neg (fun z => by omega)]; done) | (rw [if_pos ⟨by omega, by omega, by omega⟩]; done) | (exfalso; exact tie (by omega) (by omega) (by omega))
                · refine x_iload_3 dX0_leastCut_100 ?_
                  refine x_istore_2 dX0_leastCut_101 rfl ?_
                  refine x_iinc3 dX0_leastCut_102 rfl ?_
                  refine x_goto (tgt := 9) dX0_leastCut_105 rfl ?_
                  refine nxt _ _ _ hi ?_
                  rw [lcut_s g0]
                  first | (rw [if_neg (fun z => by omega)]; done) | (rw [if_pos ⟨by omega, by omega, by omega⟩]; done) | (exfalso; exact tie (by omega) (by omega) (by omega))
      · refine x_goto (tgt := 102) dX0_leastCut_40 rfl ?_
        refine x_iinc3 dX0_leastCut_102 rfl ?_
        refine x_goto (tgt := 9) dX0_leastCut_105 rfl ?_
        refine nxt _ _ _ hi ?_
        rw [lcut_s g0]
        first | (rw [if_neg (fun z => by omega)]; done) | (rw [if_pos ⟨by omega, by omega, by omega⟩]; done) | (exfalso; exact tie (by omega) (by omega) (by omega))
end CUTS
