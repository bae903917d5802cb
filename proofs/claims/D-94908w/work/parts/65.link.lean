/-! OPERATIONS: around, linkedTo -/
set_option maxRecDepth 100000
section LINK
variable {G : am_G} {d : Nat} {L : am_L} {h h' : am_H} {Q : am_O → am_L → am_H → Prop} {x o s t : Int} {T : Txt} {S : Row} {b q : Int}
/-- a set and whom its first n men know -/
def arI (T : Txt) (S : Row) (a : Int) : Nat → Int
  | 0 => a
  | n + 1 => if bt a n = 1 then bOr (arI T S a n) (knR T S n) else arI T S a n
def arR (T : Txt) (S : Row) (a : Int) : Int := arI T S a (tM T).toNat
theorem arI_ok (hT : TxtI T) {a : Int} (ha : 0 ≤ a ∧ a < 128) : ∀ n : Nat, (n : Int) ≤ tM T → (0 ≤ arI T S a n ∧ arI T S a n < 128) ∧ ∀ m, 0 ≤ m → m < 7 → bt a m = 1 → bt (arI T S a n) m = 1
  | 0, _ => ⟨ha, fun m _ _ z => z⟩
  | n + 1, hn => by
    obtain ⟨i1, i2⟩ := arI_ok hT ha n (by omega)
    have hk := (knR_ok (S := S) hT n).1
    unfold arI
    split
    · refine ⟨(bOr_bt i1 hk (m := 0) ⟨by decide, by decide⟩).2, fun m z0 z1 z => ?_⟩
      rw [(bOr_bt i1 hk (m := m) ⟨z0, z1⟩).1, if_pos (Or.inl (i2 m z0 z1 z))]
    · exact ⟨i1, i2⟩
theorem arR_ok (hT : TxtI T) {a : Int} (ha : 0 ≤ a ∧ a < 128) : (0 ≤ arR T S a ∧ arR T S a < 128) ∧ ∀ m, 0 ≤ m → m < 7 → bt a m = 1 → bt (arR T S a) m = 1 := arI_ok hT ha _ (by have := hT.1; omega)
theorem arI_s {a i : Int} (h : 0 ≤ i) : arI T S a (i + 1).toNat = if bt a i = 1 then bOr (arI T S a i.toNat) (knR T S i) else arI T S a i.toNat := by
  rw [show (i + 1).toNat = i.toNat + 1 by omega]
  show (if bt a (i.toNat : Nat) = 1 then bOr _ (knR T S (i.toNat : Nat)) else _) = _
  rw [show ((i.toNat : Nat) : Int) = i by omega]
theorem C_X0_around {a : Int} (hC : CoT L h x t T S) (hT : TxtI T) (hI : RowI T S b q) (ha : 0 ≤ a ∧ a < 128) (k : Q (.inl [aI (arR T S a)]) L h) : am_C G mX0_around (d + 6) [aR x, aI a] L h Q := by
  have hK := hC.mk
  have hM := hT.1
  refine x_start okX0_around rfl rfl rfl rfl ?_
  refine x_iload_1 dX0_around_0 ?_
  refine x_istore_2 dX0_around_1 rfl ?_
  refine x_iconst dX0_around_2 ?_
  refine x_istore_3 dX0_around_3 rfl ?_
  skip
  refine x_up0 (tM T) (fun i => 0 ≤ i → i ≤ tM T → am_X G mX0_around (d + 6) 4 [aR x, aI a, aI (arI T S a i.toNat), aI i] [] L h Q) (fun i ih g0 g1 => ?_) 0 (by omega) hM.1
  have bi := (arI_ok (S := S) hT ha i.toNat (by omega)).1
  have hbt : bt a i = bAnd (bShr a i) 1 := rfl
  have bt1 := bt_01 a i
  have ihp : ∀ v, i < tM T → v = arI T S a (i + 1).toNat → am_X G mX0_around (d + 6) 4 [aR x, aI a, aI v, aI (i + 1)] [] L h Q := fun v z e => by rw [e]; exact ih z (by omega) (by omega)
  refine x_iload_3 dX0_around_4 ?_
  refine x_aload_0 dX0_around_5 ?_
  refine x_callV0 dX0_around_6 rfl okX0_men q1196 q1198 qs33 (by first | assumption | (exact MkL.k0 (by assumption))) am_k0 rfl (C_X0_men hC (x_k1 ?_))
  refine x_icmp_ge (tgt := 39) dX0_around_9 rfl (by omega) (by omega) (fun c9 => ?_) (fun c9 => ?_)
  · refine x_iload_2 dX0_around_39 ?_
    refine x_iret dX0_around_40 rfl ?_
    rw [show i = tM T by omega]
    exact k
  · refine x_iload_2 dX0_around_12 ?_
    refine x_iload_1 dX0_around_13 ?_
    refine x_iload_3 dX0_around_14 ?_
    refine x_ishr dX0_around_15 ?_
    refine x_iconst dX0_around_16 ?_
    refine x_iand dX0_around_17 ?_
    refine x_iconst dX0_around_18 ?_
    refine x_icmp_ne (tgt := 30) dX0_around_19 rfl (by omega) (by omega) (fun c19 => ?_) (fun c19 => ?_)
    · refine x_iconst dX0_around_30 ?_
      refine x_ior dX0_around_31 ?_
      refine x_istore_2 dX0_around_32 rfl ?_
      refine x_iinc3 dX0_around_33 rfl ?_
      refine x_goto (tgt := 4) dX0_around_36 rfl ?_
      refine ihp _ (by omega) ?_
      rw [arI_s g0]
      first | (rw [if_pos (by omega), show knowsV T S i = knR T S i from if_pos ⟨g0, by omega⟩]; done) | (rw [if_neg (by omega), bOr_0 ⟨by omega, by omega⟩]; done)
    · refine x_aload_0 dX0_around_22 ?_
      refine x_iload_3 dX0_around_23 ?_
      refine x_callV1 dX0_around_24 rfl okX0_knows q1472 q1461 q1462 (by first | assumption | (exact MkL.k0 (by assumption))) am_k0 rfl (C_X0_knows hC hT hI ⟨by omega, by omega⟩ (x_k1 ?_))
      refine x_goto (tgt := 31) dX0_around_27 rfl ?_
      refine x_ior dX0_around_31 ?_
      refine x_istore_2 dX0_around_32 rfl ?_
      refine x_iinc3 dX0_around_33 rfl ?_
      refine x_goto (tgt := 4) dX0_around_36 rfl ?_
      refine ihp _ (by omega) ?_
      rw [arI_s g0]
      first | (rw [if_pos (by omega), show knowsV T S i = knR T S i from if_pos ⟨g0, by omega⟩]; done) | (rw [if_neg (by omega), bOr_0 ⟨by omega, by omega⟩]; done)
theorem C_X13_linkedTo {a : Int} (hM : MdT L h o s T) (hR : RwF (h (o + 38)) (tM T) S) (hT : TxtI T) (hI : RowI T S b q) (ha : 0 ≤ a ∧ a < 128) (k : Q (.inl [aI (arR T S a)]) L h) : am_C G mX13_linkedTo (d + 4) [aR o, aI a] L h Q := by
  have hL := hM.1
  have hs := hM.2.1
  have hlv := hM.2.2.1
  have hmen := hM.2.2.2.1
  have hM7 := hT.1
  refine x_start okX13_linkedTo rfl rfl rfl rfl ?_
  refine x_iload_1 dX13_linkedTo_0 ?_
  refine x_istore_2 dX13_linkedTo_1 rfl ?_
  refine x_iconst dX13_linkedTo_2 ?_
  refine x_istore_3 dX13_linkedTo_3 rfl ?_
  skip
  refine x_up0 (tM T) (fun i => 0 ≤ i → i ≤ tM T → am_X G mX13_linkedTo (d + 4) 4 [aR o, aI a, aI (arI T S a i.toNat), aI i] [] L h Q) (fun i ih g0 g1 => ?_) 0 (by omega) hM7.1
  have hbt : bt a i = bAnd (bShr a i) 1 := rfl
  have bt1 := bt_01 a i
  have ihp : ∀ v, i < tM T → v = arI T S a (i + 1).toNat → am_X G mX13_linkedTo (d + 4) 4 [aR o, aI a, aI v, aI (i + 1)] [] L h Q := fun v z e => by rw [e]; exact ih z (by omega) (by omega)
  refine x_iload_3 dX13_linkedTo_4 ?_
  refine x_aload_0 dX13_linkedTo_5 ?_
  refine x_getR dX13_linkedTo_6 fl1598_13 rfl (by first | (exact MdL.k0 (by assumption)) | (assumption)) (by first | (exact MdL.v_men (by assumption)) | (assumption)) ?_
  refine x_aload_0 dX13_linkedTo_9 ?_
  refine x_getI_ dX13_linkedTo_10 fl1592_13 (by first | (exact MdL.k0 (by assumption)) | (assumption)) (fun r10 => ?_)
  rw [hlv] at r10 ⊢
  refine x_iald_ dX13_linkedTo_13 (by first | (exact MdL.k_men (by assumption)) | (assumption)) (by first | (exact MdL.x_men (by assumption) (by omega) (by omega)) | (omega)) (fun r13 => ?_)
  rw [hmen] at r13 ⊢
  refine x_icmp_ge (tgt := 40) dX13_linkedTo_14 rfl (by omega) (by omega) (fun c14 => ?_) (fun c14 => ?_)
  · refine x_iload_2 dX13_linkedTo_40 ?_
    refine x_iret dX13_linkedTo_41 rfl ?_
    rw [show i = tM T by omega]
    exact k
  · refine x_iload_1 dX13_linkedTo_17 ?_
    refine x_iload_3 dX13_linkedTo_18 ?_
    refine x_ishr dX13_linkedTo_19 ?_
    refine x_iconst dX13_linkedTo_20 ?_
    refine x_iand dX13_linkedTo_21 ?_
    refine x_iconst dX13_linkedTo_22 ?_
    refine x_icmp_ne (tgt := 34) dX13_linkedTo_23 rfl (by omega) (by omega) (fun c23 => ?_) (fun c23 => ?_)
    · refine x_iinc3 dX13_linkedTo_34 rfl ?_
      refine x_goto (tgt := 4) dX13_linkedTo_37 rfl ?_
      refine ihp _ (by omega) ?_
      rw [arI_s g0]
      first | (rw [if_pos (by omega)]; done) | (rw [if_neg (by omega)]; done)
    · refine x_iload_2 dX13_linkedTo_26 ?_
      refine x_aload_0 dX13_linkedTo_27 ?_
      refine x_iload_3 dX13_linkedTo_28 ?_
      refine x_callV1 dX13_linkedTo_29 rfl okX13_knowsNow q2177 q2179 qs108 (by first | assumption | (exact MdL.k0 (by assumption))) am_k13 rfl (C_X13_knowsNow hM hR hT hI ⟨g0, by omega⟩ (x_k1 ?_))
      refine x_ior dX13_linkedTo_32 ?_
      refine x_istore_2 dX13_linkedTo_33 rfl ?_
      refine x_iinc3 dX13_linkedTo_34 rfl ?_
      refine x_goto (tgt := 4) dX13_linkedTo_37 rfl ?_
      refine ihp _ (by omega) ?_
      rw [arI_s g0]
      first | (rw [if_pos (by omega)]; done) | (rw [if_neg (by omega)]; done)
end LINK
