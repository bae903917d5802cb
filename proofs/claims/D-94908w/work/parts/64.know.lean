/-! OPERATIONS: knows; around, linkedTo -/
set_option maxRecDepth 100000
section KNOW
variable {G : am_G} {d : Nat} {L : am_L} {h h' : am_H} {Q : am_O → am_L → am_H → Prop} {x o s t : Int} {T : Txt} {S : Row} {b q : Int}
/-- whom m knows -/
def knP (S : Row) (m : Int) : Int → Bool := fun n => decide (n ≠ m ∧ 0 < ovR S m n + ovR S n m)
theorem knP_t {m n : Int} (h1 : n ≠ m) (h2 : 0 < ovR S m n + ovR S n m) : knP S m n = true := decide_eq_true ⟨h1, h2⟩
theorem knP_f {m n : Int} (h : n = m ∨ ovR S m n + ovR S n m ≤ 0) : ¬ knP S m n = true := fun z => absurd (of_decide_eq_true z) (by omega)
def knR (T : Txt) (S : Row) (m : Int) : Int := bset (knP S m) (tM T).toNat
theorem knR_ok (hT : TxtI T) (m : Int) : (0 ≤ knR T S m ∧ knR T S m < 128) ∧ ∀ n, 0 ≤ n → n < 7 → bt (knR T S m) n = if n < tM T ∧ knP S m n = true then 1 else 0 := by
  have := bset_ok (knP S m) (tM T).toNat (by have := hT.1; omega)
  rw [show (((tM T).toNat : Nat) : Int) = tM T by have := hT.1; omega] at this
  exact this
def knowsV (T : Txt) (S : Row) (m : Int) : Int := if 0 ≤ m ∧ m < tM T then knR T S m else -1
set_option maxHeartbeats 4000000 in
theorem C_X0_knows {m : Int} (hC : CoT L h x t T S) (hT : TxtI T) (hI : RowI T S b q) (hm : rg32 m) (k : Q (.inl [aI (knowsV T S m)]) L h) : am_C G mX0_knows (d + 5) [aR x, aI m] L h Q := by
  have hK := hC.mk
  have hM := hT.1
  have hcl := hC.cl
  refine x_start okX0_knows rfl rfl rfl rfl ?_
  refine x_aload_0 dX0_knows_0 ?_
  refine x_iload_1 dX0_knows_1 ?_
  refine x_callV1 dX0_knows_2 rfl okX0_isMan q1192 q1194 qs32 (by first | assumption | (exact MkL.k0 (by assumption))) am_k0 rfl (C_X0_isMan hC hT hm (x_k1 ?_))
  refine x_if_ne (tgt := 10) dX0_knows_5 rfl (by split <;> omega) (fun c5 => ?_) (fun c5 => ?_)
  · refine x_iconst dX0_knows_10 ?_
    refine x_istore_2 dX0_knows_11 rfl ?_
    refine x_iconst dX0_knows_12 ?_
    refine x_istore_3 dX0_knows_13 rfl ?_
    have hm1 : 0 ≤ m ∧ m < tM T := by split at c5 <;> omega
    refine x_up0 (tM T) (fun i => 0 ≤ i → i ≤ tM T → am_X G mX0_knows (d + 5) 14 [aR x, aI m, aI (bset (knP S m) i.toNat), aI i] [] L h Q) (fun i ih g0 g1 => ?_) 0 (by omega) hM.1
    have bi := (bset_ok (knP S m) i.toNat (by omega)).1
    have ihp : ∀ v, i < tM T → v = bset (knP S m) (i + 1).toNat → am_X G mX0_knows (d + 5) 14 [aR x, aI m, aI v, aI (i + 1)] [] L h Q := fun v z e => by rw [e]; exact ih z (by omega) (by omega)
    refine x_iload_3 dX0_knows_14 ?_
    refine x_aload_0 dX0_knows_15 ?_
    refine x_callV0 dX0_knows_16 rfl okX0_men q1196 q1198 qs33 (by first | assumption | (exact MkL.k0 (by assumption))) am_k0 rfl (C_X0_men hC (x_k1 ?_))
    refine x_icmp_ge (tgt := 65) dX0_knows_19 rfl (by omega) (by omega) (fun c19 => ?_) (fun c19 => ?_)
    · refine x_iload_2 dX0_knows_65 ?_
      refine x_iret dX0_knows_66 rfl ?_
      rw [show i = tM T by omega]
      refine x_q1 ?_ k
      unfold knowsV
      rw [if_pos hm1]
      rfl
    · refine x_iload_2 dX0_knows_22 ?_
      refine x_iload_3 dX0_knows_23 ?_
      refine x_iload_1 dX0_knows_24 ?_
      refine x_icmp_eq (tgt := 56) dX0_knows_25 rfl (by omega) (by omega) (fun c25 => ?_) (fun c25 => ?_)
      · refine x_iconst dX0_knows_56 ?_
        refine x_ior dX0_knows_57 ?_
        refine x_istore_2 dX0_knows_58 rfl ?_
        refine x_iinc3 dX0_knows_59 rfl ?_
        refine x_goto (tgt := 14) dX0_knows_62 rfl ?_
        refine ihp _ (by omega) ?_
        rw [bset_s _ g0]
        first | (rw [if_pos (knP_t (by omega) (by omega))]; done) | (rw [if_neg (knP_f (by omega)), bOr_0 ⟨by omega, by omega⟩]; done)
      · refine x_aload_0 dX0_knows_28 ?_
        refine x_getR dX0_knows_29 fl578_0 rfl (by first | (exact MkL.k0 (by assumption)) | (assumption)) (by first | (exact MkL.v_cloth (by assumption)) | (assumption)) ?_
        refine x_iload_1 dX0_knows_32 ?_
        refine x_iload_3 dX0_knows_33 ?_
        refine x_callV2 dX0_knows_34 rfl okX5_over q1311 q1312 q1313 (by first | assumption | (exact ClL.k0 (by assumption))) am_k5 rfl (C_X5_over hC.rc hI hT ⟨by omega, by omega⟩ ⟨by omega, by omega⟩ (x_k1 ?_))
        refine x_aload_0 dX0_knows_37 ?_
        refine x_getR dX0_knows_38 fl578_0 rfl (by first | (exact MkL.k0 (by assumption)) | (assumption)) (by first | (exact MkL.v_cloth (by assumption)) | (assumption)) ?_
        refine x_iload_3 dX0_knows_41 ?_
        refine x_iload_1 dX0_knows_42 ?_
        refine x_callV2 dX0_knows_43 rfl okX5_over q1311 q1312 q1313 (by first | assumption | (exact ClL.k0 (by assumption))) am_k5 rfl (C_X5_over hC.rc hI hT ⟨by omega, by omega⟩ ⟨by omega, by omega⟩ (x_k1 ?_))
        refine x_iadd dX0_knows_46 ?_
        refine x_if_le (tgt := 56) dX0_knows_47 rfl (by have := ovR_bd hI hT (m := i) (n := m) ⟨by omega, by omega⟩ ⟨by omega, by omega⟩; have := ovR_bd hI hT (m := m) (n := i) ⟨by omega, by omega⟩ ⟨by omega, by omega⟩; omega) (fun c47 => ?_) (fun c47 => ?_)
        · refine x_iconst dX0_knows_56 ?_
          refine x_ior dX0_knows_57 ?_
          refine x_istore_2 dX0_knows_58 rfl ?_
          refine x_iinc3 dX0_knows_59 rfl ?_
          refine x_goto (tgt := 14) dX0_knows_62 rfl ?_
          refine ihp _ (by omega) ?_
          rw [bset_s _ g0]
          first | (rw [if_pos (knP_t (by omega) (by omega))]; done) | (rw [if_neg (knP_f (by omega)), bOr_0 ⟨by omega, by omega⟩]; done)
        · refine x_iconst dX0_knows_50 ?_
          refine x_iload_3 dX0_knows_51 ?_
          refine x_ishl dX0_knows_52 ?_
          refine x_goto (tgt := 57) dX0_knows_53 rfl ?_
          refine x_ior dX0_knows_57 ?_
          refine x_istore_2 dX0_knows_58 rfl ?_
          refine x_iinc3 dX0_knows_59 rfl ?_
          refine x_goto (tgt := 14) dX0_knows_62 rfl ?_
          refine ihp _ (by omega) ?_
          rw [bset_s _ g0]
          first | (rw [if_pos (knP_t (by omega) (by omega))]; done) | (rw [if_neg (knP_f (by omega)), bOr_0 ⟨by omega, by omega⟩]; done)
  · refine x_iconst dX0_knows_8 ?_
    refine x_iret dX0_knows_9 rfl ?_
    refine x_q1 ?_ k
    unfold knowsV
    rw [if_neg (by split at c5 <;> omega)]
set_option maxHeartbeats 4000000 in
theorem C_X13_knowsNow {m : Int} (hM : MdT L h o s T) (hR : RwF (h (o + 38)) (tM T) S) (hT : TxtI T) (hI : RowI T S b q) (hm : 0 ≤ m ∧ m < tM T) (k : Q (.inl [aI (knR T S m)]) L h) : am_C G mX13_knowsNow (d + 3) [aR o, aI m] L h Q := by
  have hL := hM.1
  have hs := hM.2.1
  have hlv := hM.2.2.1
  have hmen := hM.2.2.2.1
  have hM7 := hT.1
  refine x_start okX13_knowsNow rfl rfl rfl rfl ?_
  refine x_iconst dX13_knowsNow_0 ?_
  refine x_istore_2 dX13_knowsNow_1 rfl ?_
  refine x_iconst dX13_knowsNow_2 ?_
  refine x_istore_3 dX13_knowsNow_3 rfl ?_
  skip
  refine x_up0 (tM T) (fun i => 0 ≤ i → i ≤ tM T → am_X G mX13_knowsNow (d + 3) 4 [aR o, aI m, aI (bset (knP S m) i.toNat), aI i] [] L h Q) (fun i ih g0 g1 => ?_) 0 (by omega) hM7.1
  have bi := (bset_ok (knP S m) i.toNat (by omega)).1
  have ihp : ∀ v, i < tM T → v = bset (knP S m) (i + 1).toNat → am_X G mX13_knowsNow (d + 3) 4 [aR o, aI m, aI v, aI (i + 1)] [] L h Q := fun v z e => by rw [e]; exact ih z (by omega) (by omega)
  refine x_iload_3 dX13_knowsNow_4 ?_
  refine x_aload_0 dX13_knowsNow_5 ?_
  refine x_getR dX13_knowsNow_6 fl1598_13 rfl (by first | (exact MdL.k0 (by assumption)) | (assumption)) (by first | (exact MdL.v_men (by assumption)) | (assumption)) ?_
  refine x_aload_0 dX13_knowsNow_9 ?_
  refine x_getI_ dX13_knowsNow_10 fl1592_13 (by first | (exact MdL.k0 (by assumption)) | (assumption)) (fun r10 => ?_)
  rw [hlv] at r10 ⊢
  refine x_iald_ dX13_knowsNow_13 (by first | (exact MdL.k_men (by assumption)) | (assumption)) (by first | (exact MdL.x_men (by assumption) (by omega) (by omega)) | (omega)) (fun r13 => ?_)
  rw [hmen] at r13 ⊢
  refine x_icmp_ge (tgt := 52) dX13_knowsNow_14 rfl (by omega) (by omega) (fun c14 => ?_) (fun c14 => ?_)
  · refine x_iload_2 dX13_knowsNow_52 ?_
    refine x_iret dX13_knowsNow_53 rfl ?_
    rw [show i = tM T by omega]
    exact k
  · have b1 := ovR_bd hI hT (m := i) (n := m) ⟨by omega, by omega⟩ ⟨by omega, by omega⟩
    have b2 := ovR_bd hI hT (m := m) (n := i) ⟨by omega, by omega⟩ ⟨by omega, by omega⟩
    refine x_iload_3 dX13_knowsNow_17 ?_
    refine x_iload_1 dX13_knowsNow_18 ?_
    refine x_icmp_eq (tgt := 46) dX13_knowsNow_19 rfl (by omega) (by omega) (fun c19 => ?_) (fun c19 => ?_)
    · refine x_iinc3 dX13_knowsNow_46 rfl ?_
      refine x_goto (tgt := 4) dX13_knowsNow_49 rfl ?_
      refine ihp _ (by omega) ?_
      rw [bset_s _ g0]
      first | (rw [if_pos (knP_t (by omega) (by omega))]; done) | (rw [if_neg (knP_f (by omega))]; done)
    · refine x_aload_0 dX13_knowsNow_22 ?_
      refine x_iload_1 dX13_knowsNow_23 ?_
      refine x_iload_3 dX13_knowsNow_24 ?_
      refine x_callV2 dX13_knowsNow_25 rfl okX13_overOf q2038 q2040 qs94 (by first | assumption | (exact MdL.k0 (by assumption))) am_k13 rfl (C_X13_overOf hL hR hI hT hm ⟨g0, by omega⟩ (x_k1 ?_))
      refine x_if_gt (tgt := 40) dX13_knowsNow_28 rfl (by omega) (fun c28 => ?_) (fun c28 => ?_)
      · refine x_iload_2 dX13_knowsNow_40 ?_
        refine x_iconst dX13_knowsNow_41 ?_
        refine x_iload_3 dX13_knowsNow_42 ?_
        refine x_ishl dX13_knowsNow_43 ?_
        refine x_ior dX13_knowsNow_44 ?_
        refine x_istore_2 dX13_knowsNow_45 rfl ?_
        refine x_iinc3 dX13_knowsNow_46 rfl ?_
        refine x_goto (tgt := 4) dX13_knowsNow_49 rfl ?_
        refine ihp _ (by omega) ?_
        rw [bset_s _ g0]
        first | (rw [if_pos (knP_t (by omega) (by omega))]; done) | (rw [if_neg (knP_f (by omega))]; done)
      · refine x_aload_0 dX13_knowsNow_31 ?_
        refine x_iload_3 dX13_knowsNow_32 ?_
        refine x_iload_1 dX13_knowsNow_33 ?_
        refine x_callV2 dX13_knowsNow_34 rfl okX13_overOf q2038 q2040 qs94 (by first | assumption | (exact MdL.k0 (by assumption))) am_k13 rfl (C_X13_overOf hL hR hI hT ⟨g0, by omega⟩ hm (x_k1 ?_))
        refine x_if_le (tgt := 46) dX13_knowsNow_37 rfl (by omega) (fun c37 => ?_) (fun c37 => ?_)
        · refine x_iinc3 dX13_knowsNow_46 rfl ?_
          refine x_goto (tgt := 4) dX13_knowsNow_49 rfl ?_
          refine ihp _ (by omega) ?_
          rw [bset_s _ g0]
          first | (rw [if_pos (knP_t (by omega) (by omega))]; done) | (rw [if_neg (knP_f (by omega))]; done)
        · refine x_iload_2 dX13_knowsNow_40 ?_
          refine x_iconst dX13_knowsNow_41 ?_
          refine x_iload_3 dX13_knowsNow_42 ?_
          refine x_ishl dX13_knowsNow_43 ?_
          refine x_ior dX13_knowsNow_44 ?_
          refine x_istore_2 dX13_knowsNow_45 rfl ?_
          refine x_iinc3 dX13_knowsNow_46 rfl ?_
          refine x_goto (tgt := 4) dX13_knowsNow_49 rfl ?_
          refine ihp _ (by omega) ?_
          rw [bset_s _ g0]
          first | (rw [if_pos (knP_t (by omega) (by omega))]; done) | (rw [if_neg (knP_f (by omega))]; done)
theorem C_X13_knows {m : Int} (hC : TwT L h o s T S) (hT : TxtI T) (hI : RowI T S b q) (hm : rg32 m) (k : ∀ h', FrW h h' o → Q (.inl [aI (knowsV T S m)]) L h') : am_C G mX13_knows (d + 12) [aR o, aI m] L h Q := by
  have hM := hC.1
  have hL := hM.1
  refine x_start okX13_knows rfl rfl rfl rfl ?_
  refine x_aload_0 dX13_knows_0 ?_
  refine x_iload_1 dX13_knows_1 ?_
  refine x_callV1 dX13_knows_2 rfl okX13_isMan q1927 q1929 qs80 (by first | assumption | (exact MdL.k0 (by assumption))) am_k13 rfl (C_X13_isMan hM hT hm (x_k1 ?_))
  refine x_if_ne (tgt := 10) dX13_knows_5 rfl (by split <;> omega) (fun c5 => ?_) (fun c5 => ?_)
  · have hm1 : 0 ≤ m ∧ m < tM T := by split at c5 <;> omega
    refine x_aload_0 dX13_knows_10 ?_
    refine x_callV0 dX13_knows_11 rfl okX13_copies q1934 q1936 qs81 (by first | assumption | (exact MdL.k0 (by assumption))) am_k13 rfl (C_X13_copiesR hL hC.2 hI hT (fun h1 e1 f1 e2 e3 => (x_k0 ?_)))
    refine x_aload_0 dX13_knows_14 ?_
    refine x_iload_1 dX13_knows_15 ?_
    refine x_callV1 dX13_knows_16 rfl okX13_knowsNow q2177 q2179 qs108 (by first | assumption | (exact MdL.k0 (by assumption))) am_k13 rfl (C_X13_knowsNow (hM.fr f1) e2 hT hI hm1 (x_k1 ?_))
    refine x_iret dX13_knows_19 rfl ?_
    refine x_q1 ?_ (k h1 f1)
    unfold knowsV
    rw [if_pos hm1]
  · refine x_iconst dX13_knows_8 ?_
    refine x_iret dX13_knows_9 rfl ?_
    refine x_q1 ?_ (k h (FrW.rf h o))
    unfold knowsV
    rw [if_neg (by split at c5 <;> omega)]
end KNOW
