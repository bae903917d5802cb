/-! OPERATIONS: over, waits -/
set_option maxRecDepth 100000
section OVER
variable {G : am_G} {d : Nat} {L : am_L} {h h' : am_H} {Q : am_O → am_L → am_H → Prop} {x o s t : Int} {T : Txt} {S : Row} {b q : Int}
theorem ovR_bd (hI : RowI T S b q) (hT : TxtI T) {m n : Int} (hm : 0 ≤ m ∧ m < 7) (hn : 0 ≤ n ∧ n < 7) : 0 ≤ ovR S m n ∧ ovR S m n ≤ 3600 := by
  have h1 := hI.n60 hT m hm.1 hm.2
  have h2 := hI.n60 hT n hn.1 hn.2
  have := sumI_bd (n := rN S m) (b := 60) (f := fun i => sumI (rN S n) (ovF S m n i)) h1.1 (fun i _ _ => by
    have := sumI_bd (n := rN S n) (b := 1) (f := ovF S m n i) h2.1 (fun j _ _ => by unfold ovF; split <;> omega)
    omega)
  unfold ovR
  omega
set_option maxHeartbeats 4000000 in
theorem C_X13_overOf {m n : Int} (hL : MdL L o) (hR : RwF (h (o + 38)) (tM T) S) (hI : RowI T S b q) (hT : TxtI T) (hm : 0 ≤ m ∧ m < tM T) (hn : 0 ≤ n ∧ n < tM T)
    (k : Q (.inl [aI (ovR S m n)]) L h) : am_C G mX13_overOf (d + 1) [aR o, aI m, aI n] L h Q := by
  have hM7 := hT.1
  obtain ⟨rn, rx, rk, rm, rq⟩ := hR
  obtain ⟨em, -⟩ := rn m hm.1 (by omega)
  obtain ⟨en, -⟩ := rn n hn.1 (by omega)
  have bm := hI.n60 hT m hm.1 (by omega)
  have bn := hI.n60 hT n hn.1 (by omega)
  refine x_start okX13_overOf rfl rfl rfl rfl ?_
  refine x_iconst dX13_overOf_0 ?_
  refine x_istore_3 dX13_overOf_1 rfl ?_
  refine x_iconst dX13_overOf_2 ?_
  refine x_istore4 dX13_overOf_3 rfl ?_
  refine x_up4 (rN S m) (fun i c w1 w2 w3 => 0 ≤ i → i ≤ rN S m → c = sumI i (fun i => sumI (rN S n) (ovF S m n i)) → am_X G mX13_overOf (d + 1) 5 [aR o, aI m, aI n, aI c, aI i, w1, w2, w3] [] L h Q) ?_ 0 0 aU aU aU (by omega) (by omega) rfl
  intro i c w1 w2 w3 ih h0 h1 hn1
  refine x_iload4 dX13_overOf_5 ?_
  refine x_aload_0 dX13_overOf_7 ?_
  refine x_getR dX13_overOf_8 fl1630_13 rfl (by first | (exact MdL.k0 (by assumption)) | (assumption)) (by first | (exact MdL.v_row (by assumption)) | (assumption)) ?_
  refine x_bipush dX13_overOf_11 rfl ?_
  refine x_iload_1 dX13_overOf_13 ?_
  refine x_iadd dX13_overOf_14 ?_
  refine x_iald_ dX13_overOf_15 (by first | (exact MdL.k_row (by assumption)) | (assumption)) (by first | (exact MdL.x_row (by assumption) (by omega) (by omega)) | (omega)) (fun r15 => ?_)
  rw [em] at r15 ⊢
  refine x_icmp_ge (tgt := 119) dX13_overOf_16 rfl (by omega) (by omega) (fun c16 => ?_) (fun c16 => ?_)
  · refine x_iload_3 dX13_overOf_119 ?_
    refine x_iret dX13_overOf_120 rfl ?_
    rw [hn1, show i = rN S m by omega]; exact k
  · refine x_bipush dX13_overOf_19 rfl ?_
    refine x_iload_1 dX13_overOf_21 ?_
    refine x_imul dX13_overOf_22 ?_
    refine x_iload4 dX13_overOf_23 ?_
    refine x_iadd dX13_overOf_25 ?_
    refine x_istore5 dX13_overOf_26 rfl ?_
    refine x_iconst dX13_overOf_28 ?_
    refine x_istore6 dX13_overOf_29 rfl ?_
    refine x_up2 (rN S n) (fun j c' w3 => 0 ≤ j → j ≤ rN S n → c' = c + sumI j (ovF S m n i) → am_X G mX13_overOf (d + 1) 31 [aR o, aI m, aI n, aI c', aI i, aI (60 * m + i), aI j, w3] [] L h Q) ?_ 0 c _ (by omega) (by omega) (by rw [sumI_0]; omega)
    intro j c' w3 ih2 g0 g1 hn2
    obtain ⟨-, e2, e3⟩ := rk m i hm.1 (by omega) h0 (by omega)
    refine x_iload6 dX13_overOf_31 ?_
    refine x_aload_0 dX13_overOf_33 ?_
    refine x_getR dX13_overOf_34 fl1630_13 rfl (by first | (exact MdL.k0 (by assumption)) | (assumption)) (by first | (exact MdL.v_row (by assumption)) | (assumption)) ?_
    refine x_bipush dX13_overOf_37 rfl ?_
    refine x_iload_2 dX13_overOf_39 ?_
    refine x_iadd dX13_overOf_40 ?_
    refine x_iald_ dX13_overOf_41 (by first | (exact MdL.k_row (by assumption)) | (assumption)) (by first | (exact MdL.x_row (by assumption) (by omega) (by omega)) | (omega)) (fun r41 => ?_)
    rw [en] at r41 ⊢
    refine x_icmp_ge (tgt := 113) dX13_overOf_42 rfl (by omega) (by omega) (fun c42 => ?_) (fun c42 => ?_)
    · refine x_iinc4 dX13_overOf_113 rfl ?_
      refine x_goto (tgt := 5) dX13_overOf_116 rfl ?_
      refine ih (by omega) _ _ _ _ (by omega) (by omega) ?_
      rw [hn2, hn1, show j = rN S n by omega]
      exact (sumI_s _ h0).symm
    · obtain ⟨-, e4, e5⟩ := rk n j hn.1 (by omega) g0 (by omega)
      have b1 := hI.st hT m i hm.1 hm.2 h0 (by omega)
      have b2 := hI.st hT n j hn.1 hn.2 g0 (by omega)
      have b3 := s2_inj b1 b2
      refine x_bipush dX13_overOf_45 rfl ?_
      refine x_iload_2 dX13_overOf_47 ?_
      refine x_imul dX13_overOf_48 ?_
      refine x_iload6 dX13_overOf_49 ?_
      refine x_iadd dX13_overOf_51 ?_
      refine x_istore7 dX13_overOf_52 rfl ?_
      refine x_aload_0 dX13_overOf_54 ?_
      refine x_getR dX13_overOf_55 fl1630_13 rfl (by first | (exact MdL.k0 (by assumption)) | (assumption)) (by first | (exact MdL.v_row (by assumption)) | (assumption)) ?_
      refine x_sipush dX13_overOf_58 rfl ?_
      refine x_iload5 dX13_overOf_61 ?_
      refine x_iadd dX13_overOf_63 ?_
      refine x_iald_ dX13_overOf_64 (by first | (exact MdL.k_row (by assumption)) | (assumption)) (by first | (exact MdL.x_row (by assumption) (by omega) (by omega)) | (omega)) (fun r64 => ?_)
      simp (disch := omega) only [e2, e3, e4, e5] at r64 ⊢
      refine x_aload_0 dX13_overOf_65 ?_
      refine x_getR dX13_overOf_66 fl1630_13 rfl (by first | (exact MdL.k0 (by assumption)) | (assumption)) (by first | (exact MdL.v_row (by assumption)) | (assumption)) ?_
      refine x_sipush dX13_overOf_69 rfl ?_
      refine x_iload7 dX13_overOf_72 ?_
      refine x_iadd dX13_overOf_74 ?_
      refine x_iald_ dX13_overOf_75 (by first | (exact MdL.k_row (by assumption)) | (assumption)) (by first | (exact MdL.x_row (by assumption) (by omega) (by omega)) | (omega)) (fun r75 => ?_)
      simp (disch := omega) only [e2, e3, e4, e5] at r75 ⊢
      refine x_icmp_ne (tgt := 107) dX13_overOf_76 rfl (by omega) (by omega) (fun c76 => ?_) (fun c76 => ?_)
      · refine x_iinc6 dX13_overOf_107 rfl ?_
        refine x_goto (tgt := 31) dX13_overOf_110 rfl ?_
        refine ih2 (by omega) _ _ (by omega) (by omega) ?_
        rw [sumI_s _ g0, hn2]
        unfold ovF
        first | (rw [if_pos ⟨b3 (by omega), by omega⟩]; omega) | (rw [if_neg (fun z => by omega)]; omega) | (rw [if_neg (fun z => by have := z.1; rw [this] at c76; omega)]; omega)
      · refine x_aload_0 dX13_overOf_79 ?_
        refine x_getR dX13_overOf_80 fl1630_13 rfl (by first | (exact MdL.k0 (by assumption)) | (assumption)) (by first | (exact MdL.v_row (by assumption)) | (assumption)) ?_
        refine x_sipush dX13_overOf_83 rfl ?_
        refine x_iload5 dX13_overOf_86 ?_
        refine x_iadd dX13_overOf_88 ?_
        refine x_iald_ dX13_overOf_89 (by first | (exact MdL.k_row (by assumption)) | (assumption)) (by first | (exact MdL.x_row (by assumption) (by omega) (by omega)) | (omega)) (fun r89 => ?_)
        simp (disch := omega) only [e2, e3, e4, e5] at r89 ⊢
        refine x_aload_0 dX13_overOf_90 ?_
        refine x_getR dX13_overOf_91 fl1630_13 rfl (by first | (exact MdL.k0 (by assumption)) | (assumption)) (by first | (exact MdL.v_row (by assumption)) | (assumption)) ?_
        refine x_sipush dX13_overOf_94 rfl ?_
        refine x_iload7 dX13_overOf_97 ?_
        refine x_iadd dX13_overOf_99 ?_
        refine x_iald_ dX13_overOf_100 (by first | (exact MdL.k_row (by assumption)) | (assumption)) (by first | (exact MdL.x_row (by assumption) (by omega) (by omega)) | (omega)) (fun r100 => ?_)
        simp (disch := omega) only [e2, e3, e4, e5] at r100 ⊢
        refine x_icmp_le (tgt := 107) dX13_overOf_101 rfl (by omega) (by omega) (fun c101 => ?_) (fun c101 => ?_)
        · refine x_iinc6 dX13_overOf_107 rfl ?_
          refine x_goto (tgt := 31) dX13_overOf_110 rfl ?_
          refine ih2 (by omega) _ _ (by omega) (by omega) ?_
          rw [sumI_s _ g0, hn2]
          unfold ovF
          first | (rw [if_pos ⟨b3 (by omega), by omega⟩]; omega) | (rw [if_neg (fun z => by omega)]; omega) | (rw [if_neg (fun z => by have := z.1; rw [this] at c76; omega)]; omega)
        · refine x_iinc3 dX13_overOf_104 rfl ?_
          refine x_iinc6 dX13_overOf_107 rfl ?_
          refine x_goto (tgt := 31) dX13_overOf_110 rfl ?_
          refine ih2 (by omega) _ _ (by omega) (by omega) ?_
          rw [sumI_s _ g0, hn2]
          unfold ovF
          first | (rw [if_pos ⟨b3 (by omega), by omega⟩]; omega) | (rw [if_neg (fun z => by omega)]; omega) | (rw [if_neg (fun z => by have := z.1; rw [this] at c76; omega)]; omega)
def overV (T : Txt) (S : Row) (m n : Int) : Int := if (0 ≤ m ∧ m < tM T) ∧ (0 ≤ n ∧ n < tM T) ∧ m ≠ n then ovR S m n else -1
theorem C_X0_over {m n : Int} (hC : CoT L h x t T S) (hT : TxtI T) (hI : RowI T S b q) (hm : rg32 m) (hn : rg32 n) (k : Q (.inl [aI (overV T S m n)]) L h) : am_C G mX0_over (d + 430) [aR x, aI m, aI n] L h Q := by
  have hK := hC.mk
  have hM := hT.1
  have hcl := hC.cl
  refine x_start okX0_over rfl rfl rfl rfl ?_
  refine x_aload_0 dX0_over_0 ?_
  refine x_iload_1 dX0_over_1 ?_
  refine x_iload_2 dX0_over_2 ?_
  refine x_callV2 dX0_over_3 rfl okX0_areTwo q1307 q1309 qs35 (by first | assumption | (exact MkL.k0 (by assumption))) am_k0 rfl (C_X0_areTwo hC hT hm hn (x_k1 ?_))
  refine x_if_eq (tgt := 21) dX0_over_6 rfl (by split <;> omega) (fun c6 => ?_) (fun c6 => ?_)
  · skip
    refine x_iconst dX0_over_21 ?_
    refine x_iret dX0_over_22 rfl ?_
    refine x_q1 ?_ k
    unfold overV
    rw [if_neg (by split at c6 <;> omega)]
  · have h2 : (0 ≤ m ∧ m < tM T) ∧ (0 ≤ n ∧ n < tM T) ∧ m ≠ n := by split at c6 <;> first | assumption | omega
    refine x_aload_0 dX0_over_9 ?_
    refine x_getR dX0_over_10 fl578_0 rfl (by first | (exact MkL.k0 (by assumption)) | (assumption)) (by first | (exact MkL.v_cloth (by assumption)) | (assumption)) ?_
    refine x_iload_1 dX0_over_13 ?_
    refine x_iload_2 dX0_over_14 ?_
    refine x_callV2 dX0_over_15 rfl okX5_over q1311 q1312 q1313 (by first | assumption | (exact ClL.k0 (by assumption))) am_k5 rfl (C_X5_over hC.rc hI hT ⟨by omega, by omega⟩ ⟨by omega, by omega⟩ (x_k1 ?_))
    refine x_goto (tgt := 22) dX0_over_18 rfl ?_
    refine x_iret dX0_over_22 rfl ?_
    refine x_q1 ?_ k
    unfold overV
    rw [if_pos h2]
theorem C_X13_over {m n : Int} (hC : TwT L h o s T S) (hT : TxtI T) (hI : RowI T S b q) (hm : rg32 m) (hn : rg32 n) (k : ∀ h', FrW h h' o → Q (.inl [aI (overV T S m n)]) L h') : am_C G mX13_over (d + 12) [aR o, aI m, aI n] L h Q := by
  have hM := hC.1
  have hL := hM.1
  have hM7 := hT.1
  refine x_start okX13_over rfl rfl rfl rfl ?_
  refine x_aload_0 dX13_over_0 ?_
  refine x_iload_1 dX13_over_1 ?_
  refine x_iload_2 dX13_over_2 ?_
  refine x_callV2 dX13_over_3 rfl okX13_areTwo q2034 q2036 qs93 (by first | assumption | (exact MdL.k0 (by assumption))) am_k13 rfl (C_X13_areTwo hM hT hm hn (x_k1 ?_))
  refine x_if_ne (tgt := 11) dX13_over_6 rfl (by split <;> omega) (fun c6 => ?_) (fun c6 => ?_)
  · have h2 : (0 ≤ m ∧ m < tM T) ∧ (0 ≤ n ∧ n < tM T) ∧ m ≠ n := by split at c6 <;> first | assumption | omega
    refine x_aload_0 dX13_over_11 ?_
    refine x_callV0 dX13_over_12 rfl okX13_copies q1934 q1936 qs81 (by first | assumption | (exact MdL.k0 (by assumption))) am_k13 rfl (C_X13_copiesR hL hC.2 hI hT (fun h1 e1 f1 e2 e3 => (x_k0 ?_)))
    refine x_aload_0 dX13_over_15 ?_
    refine x_iload_1 dX13_over_16 ?_
    refine x_iload_2 dX13_over_17 ?_
    refine x_callV2 dX13_over_18 rfl okX13_overOf q2038 q2040 qs94 (by first | assumption | (exact MdL.k0 (by assumption))) am_k13 rfl (C_X13_overOf hL e2 hI hT h2.1 h2.2.1 (x_k1 ?_))
    refine x_iret dX13_over_21 rfl ?_
    refine x_q1 ?_ (k h1 f1)
    unfold overV
    rw [if_pos h2]
  · refine x_iconst dX13_over_9 ?_
    refine x_iret dX13_over_10 rfl ?_
    refine x_q1 ?_ (k h (FrW.rf h o))
    unfold overV
    rw [if_neg (by split at c6 <;> omega)]
/-- who lies over m -/
def wtP (S : Row) (m : Int) : Int → Bool := fun n => decide (n ≠ m ∧ 0 < ovR S n m)
theorem wtP_t {S : Row} {m n : Int} (h1 : n ≠ m) (h2 : 0 < ovR S n m) : wtP S m n = true := decide_eq_true ⟨h1, h2⟩
theorem wtP_f {S : Row} {m n : Int} (h : n = m ∨ ovR S n m ≤ 0) : ¬ wtP S m n = true := fun z => absurd (of_decide_eq_true z) (by omega)
def wtR (T : Txt) (S : Row) (m : Int) : Int := bset (wtP S m) (tM T).toNat
theorem wtR_ok (hT : TxtI T) (m : Int) : (0 ≤ wtR T S m ∧ wtR T S m < 128) ∧ ∀ n, 0 ≤ n → n < 7 → bt (wtR T S m) n = if n < tM T ∧ wtP S m n = true then 1 else 0 := by
  have := bset_ok (wtP S m) (tM T).toNat (by have := hT.1; omega)
  rw [show (((tM T).toNat : Nat) : Int) = tM T by have := hT.1; omega] at this
  exact this
def waitsV (T : Txt) (S : Row) (m : Int) : Int := if 0 ≤ m ∧ m < tM T then wtR T S m else -1
set_option maxHeartbeats 4000000 in
theorem C_X0_waits {m : Int} (hC : CoT L h x t T S) (hT : TxtI T) (hI : RowI T S b q) (hm : rg32 m) (k : Q (.inl [aI (waitsV T S m)]) L h) : am_C G mX0_waits (d + 430) [aR x, aI m] L h Q := by
  have hK := hC.mk
  have hM := hT.1
  have hcl := hC.cl
  refine x_start okX0_waits rfl rfl rfl rfl ?_
  refine x_aload_0 dX0_waits_0 ?_
  refine x_iload_1 dX0_waits_1 ?_
  refine x_callV1 dX0_waits_2 rfl okX0_isMan q1192 q1194 qs32 (by first | assumption | (exact MkL.k0 (by assumption))) am_k0 rfl (C_X0_isMan hC hT hm (x_k1 ?_))
  refine x_if_ne (tgt := 10) dX0_waits_5 rfl (by split <;> omega) (fun c5 => ?_) (fun c5 => ?_)
  · refine x_iconst dX0_waits_10 ?_
    refine x_istore_2 dX0_waits_11 rfl ?_
    refine x_iconst dX0_waits_12 ?_
    refine x_istore_3 dX0_waits_13 rfl ?_
    have hm1 : 0 ≤ m ∧ m < tM T := by split at c5 <;> omega
    refine x_up0 (tM T) (fun i => 0 ≤ i → i ≤ tM T → am_X G mX0_waits (d + 430) 14 [aR x, aI m, aI (bset (wtP S m) i.toNat), aI i] [] L h Q) (fun i ih g0 g1 => ?_) 0 (by omega) hM.1
    have bi := (bset_ok (wtP S m) i.toNat (by omega)).1
    have ihp : ∀ v, i < tM T → v = bset (wtP S m) (i + 1).toNat → am_X G mX0_waits (d + 430) 14 [aR x, aI m, aI v, aI (i + 1)] [] L h Q := fun v z e => by rw [e]; exact ih z (by omega) (by omega)
    refine x_iload_3 dX0_waits_14 ?_
    refine x_aload_0 dX0_waits_15 ?_
    refine x_callV0 dX0_waits_16 rfl okX0_men q1196 q1198 qs33 (by first | assumption | (exact MkL.k0 (by assumption))) am_k0 rfl (C_X0_men hC (x_k1 ?_))
    refine x_icmp_ge (tgt := 55) dX0_waits_19 rfl (by omega) (by omega) (fun c19 => ?_) (fun c19 => ?_)
    · refine x_iload_2 dX0_waits_55 ?_
      refine x_iret dX0_waits_56 rfl ?_
      rw [show i = tM T by omega]
      refine x_q1 ?_ k
      unfold waitsV
      rw [if_pos hm1]
      rfl
    · refine x_iload_2 dX0_waits_22 ?_
      refine x_iload_3 dX0_waits_23 ?_
      refine x_iload_1 dX0_waits_24 ?_
      refine x_icmp_eq (tgt := 46) dX0_waits_25 rfl (by omega) (by omega) (fun c25 => ?_) (fun c25 => ?_)
      · refine x_iconst dX0_waits_46 ?_
        refine x_ior dX0_waits_47 ?_
        refine x_istore_2 dX0_waits_48 rfl ?_
        refine x_iinc3 dX0_waits_49 rfl ?_
        refine x_goto (tgt := 14) dX0_waits_52 rfl ?_
        refine ihp _ (by omega) ?_
        rw [bset_s _ g0]
        first | (rw [if_pos (wtP_t (by omega) (by omega))]; done) | (rw [if_neg (wtP_f (by omega)), bOr_0 ⟨by omega, by omega⟩]; done)
      · refine x_aload_0 dX0_waits_28 ?_
        refine x_getR dX0_waits_29 fl578_0 rfl (by first | (exact MkL.k0 (by assumption)) | (assumption)) (by first | (exact MkL.v_cloth (by assumption)) | (assumption)) ?_
        refine x_iload_3 dX0_waits_32 ?_
        refine x_iload_1 dX0_waits_33 ?_
        refine x_callV2 dX0_waits_34 rfl okX5_over q1311 q1312 q1313 (by first | assumption | (exact ClL.k0 (by assumption))) am_k5 rfl (C_X5_over hC.rc hI hT ⟨by omega, by omega⟩ ⟨by omega, by omega⟩ (x_k1 ?_))
        refine x_if_le (tgt := 46) dX0_waits_37 rfl (by have := ovR_bd hI hT (m := i) (n := m) ⟨by omega, by omega⟩ ⟨by omega, by omega⟩; omega) (fun c37 => ?_) (fun c37 => ?_)
        · refine x_iconst dX0_waits_46 ?_
          refine x_ior dX0_waits_47 ?_
          refine x_istore_2 dX0_waits_48 rfl ?_
          refine x_iinc3 dX0_waits_49 rfl ?_
          refine x_goto (tgt := 14) dX0_waits_52 rfl ?_
          refine ihp _ (by omega) ?_
          rw [bset_s _ g0]
          first | (rw [if_pos (wtP_t (by omega) (by omega))]; done) | (rw [if_neg (wtP_f (by omega)), bOr_0 ⟨by omega, by omega⟩]; done)
        · refine x_iconst dX0_waits_40 ?_
          refine x_iload_3 dX0_waits_41 ?_
          refine x_ishl dX0_waits_42 ?_
          refine x_goto (tgt := 47) dX0_waits_43 rfl ?_
          refine x_ior dX0_waits_47 ?_
          refine x_istore_2 dX0_waits_48 rfl ?_
          refine x_iinc3 dX0_waits_49 rfl ?_
          refine x_goto (tgt := 14) dX0_waits_52 rfl ?_
          refine ihp _ (by omega) ?_
          rw [bset_s _ g0]
          first | (rw [if_pos (wtP_t (by omega) (by omega))]; done) | (rw [if_neg (wtP_f (by omega)), bOr_0 ⟨by omega, by omega⟩]; done)
  · refine x_iconst dX0_waits_8 ?_
    refine x_iret dX0_waits_9 rfl ?_
    refine x_q1 ?_ k
    unfold waitsV
    rw [if_neg (by split at c5 <;> omega)]
/-- who has pieces -/
def outP (S : Row) : Int → Bool := fun m => decide (0 < rN S m)
def outR (T : Txt) (S : Row) : Int := bset (outP S) (tM T).toNat
theorem outR_ok (hT : TxtI T) : (0 ≤ outR T S ∧ outR T S < 128) ∧ ∀ n, 0 ≤ n → n < 7 → bt (outR T S) n = if n < tM T ∧ outP S n = true then 1 else 0 := by
  have := bset_ok (outP S) (tM T).toNat (by have := hT.1; omega)
  rw [show (((tM T).toNat : Nat) : Int) = tM T by have := hT.1; omega] at this
  exact this
set_option maxHeartbeats 8000000 in
theorem C_X13_fillsWaits (hM : MdT L h o s T) (hT : TxtI T) (hR : RwF (h (o + 38)) (tM T) S) (hI : RowI T S b q) (k : ∀ h', (∀ a, a ≠ (o + 41) → h' a = h a) → (∀ m, 0 ≤ m → m < tM T → h' (o + 41) m = wtR T S m) → Q (.inl [aI (outR T S)]) L h') : am_C G mX13_fillsWaits (d + 2) [aR o] L h Q := by
  obtain ⟨hL, hs, hlv, hmen, -⟩ := hM
  have hM7 := hT.1
  refine x_start okX13_fillsWaits rfl rfl rfl rfl ?_
  refine x_iconst dX13_fillsWaits_0 ?_
  refine x_istore_1 dX13_fillsWaits_1 rfl ?_
  refine x_iconst dX13_fillsWaits_2 ?_
  refine x_istore_2 dX13_fillsWaits_3 rfl ?_
  skip
  refine x_forA (tM T) (fun i hh (w : AV) => (∀ a, a ≠ (o + 41) → hh a = h a) ∧ ∀ m, 0 ≤ m → m < i → hh (o + 41) m = wtR T S m) (fun i hh w => am_X G mX13_fillsWaits (d + 2) 4 [aR o, aI (bset (outP S) i.toNat), aI i, w] [] L hh Q) (fun i hh w g0 g1 hP ih => ?_) h aU hM7.1 ⟨fun _ _ => rfl, fun m z0 z1 => by omega⟩
  obtain ⟨p1, p2⟩ := hP
  have bi := (bset_ok (outP S) i.toNat (by omega)).1
  have hlv1 : hh o 18 = s := by rw [p1 o (by omega)]; exact hlv
  have hmen1 : hh (o + 11) s = tM T := by rw [p1 _ (by omega)]; exact hmen
  have hR1 : RwF (hh (o + 38)) (tM T) S := by rw [p1 _ (by omega)]; exact hR
  refine x_iload_2 dX13_fillsWaits_4 ?_
  refine x_aload_0 dX13_fillsWaits_5 ?_
  refine x_getR dX13_fillsWaits_6 fl1598_13 rfl (by first | (exact MdL.k0 (by assumption)) | (assumption)) (by first | (exact MdL.v_men (by assumption)) | (assumption)) ?_
  refine x_aload_0 dX13_fillsWaits_9 ?_
  refine x_getI_ dX13_fillsWaits_10 fl1592_13 (by first | (exact MdL.k0 (by assumption)) | (assumption)) (fun r10 => ?_)
  rw [hlv1] at r10 ⊢
  refine x_iald_ dX13_fillsWaits_13 (by first | (exact MdL.k_men (by assumption)) | (assumption)) (by first | (exact MdL.x_men (by assumption) (by omega) (by omega)) | (omega)) (fun r13 => ?_)
  rw [hmen1] at r13 ⊢
  refine x_icmp_ge (tgt := 95) dX13_fillsWaits_14 rfl (by omega) (by omega) (fun c14 => ?_) (fun c14 => ?_)
  · refine x_iload_1 dX13_fillsWaits_95 ?_
    refine x_iret dX13_fillsWaits_96 rfl ?_
    have e : i = tM T := by omega
    subst e
    exact k hh p1 p2
  · have hi : i < tM T := by omega
    have en := (hR1.1 i g0 (by omega)).1
    refine x_aload_0 dX13_fillsWaits_17 ?_
    refine x_getR dX13_fillsWaits_18 fl1634_13 rfl (by first | (exact MdL.k0 (by assumption)) | (assumption)) (by first | (exact MdL.v_waitsFor (by assumption)) | (assumption)) ?_
    refine x_iload_2 dX13_fillsWaits_21 ?_
    refine x_iconst dX13_fillsWaits_22 ?_
    refine x_iast_ dX13_fillsWaits_23 (by first | (exact MdL.k_waitsFor (by assumption)) | (assumption)) (by first | (exact MdL.x_waitsFor (by assumption) (by omega) (by omega)) | (omega)) (by omega) ?_
    refine x_aload_0 dX13_fillsWaits_24 ?_
    refine x_getR dX13_fillsWaits_25 fl1630_13 rfl (by first | (exact MdL.k0 (by assumption)) | (assumption)) (by first | (exact MdL.v_row (by assumption)) | (assumption)) ?_
    refine x_bipush dX13_fillsWaits_28 rfl ?_
    refine x_iload_2 dX13_fillsWaits_30 ?_
    refine x_iadd dX13_fillsWaits_31 ?_
    refine x_iald_ dX13_fillsWaits_32 (by first | (exact MdL.k_row (by assumption)) | (assumption)) (by first | (exact MdL.x_row (by assumption) (by omega) (by omega)) | (omega)) (fun r32 => ?_)
    simp (disch := omega) only [am_st_o, en] at r32 ⊢
    refine x_if_le (tgt := 42) dX13_fillsWaits_33 rfl (by omega) (fun c33 => ?_) (fun c33 => ?_)
    · refine x_iconst dX13_fillsWaits_42 ?_
      refine x_istore_3 dX13_fillsWaits_43 rfl ?_
      have eo : bset (outP S) (i + 1).toNat = _ := bset_s (outP S) g0
      first | rw [if_pos (show outP S i = true from decide_eq_true (by omega))] at eo | rw [if_neg (show ¬ outP S i = true from fun z => absurd (of_decide_eq_true z) (by omega))] at eo
      rw [← eo]
      refine x_for (tM T) (fun j h2 => (∀ a, a ≠ (o + 41) → h2 a = h a) ∧ (∀ m, 0 ≤ m → m < i → h2 (o + 41) m = wtR T S m) ∧ h2 (o + 41) i = bset (wtP S i) j.toNat) (fun j h2 => am_X G mX13_fillsWaits (d + 2) 44 [aR o, aI (bset (outP S) (i + 1).toNat), aI i, aI j] [] L h2 Q) (fun j h2 z0 z1 hP ih2 => ?_) _ hM7.1 ⟨fun a ha => ?_, fun m z0 z1 => ?_, ?_⟩
      · obtain ⟨u1, u2, u3⟩ := hP
        have bj := (bset_ok (wtP S i) j.toNat (by omega)).1
        have hlv2 : h2 o 18 = s := by rw [u1 o (by omega)]; exact hlv
        have hmen2 : h2 (o + 11) s = tM T := by rw [u1 _ (by omega)]; exact hmen
        have hR2 : RwF (h2 (o + 38)) (tM T) S := by rw [u1 _ (by omega)]; exact hR
        refine x_iload_3 dX13_fillsWaits_44 ?_
        refine x_aload_0 dX13_fillsWaits_45 ?_
        refine x_getR dX13_fillsWaits_46 fl1598_13 rfl (by first | (exact MdL.k0 (by assumption)) | (assumption)) (by first | (exact MdL.v_men (by assumption)) | (assumption)) ?_
        refine x_aload_0 dX13_fillsWaits_49 ?_
        refine x_getI_ dX13_fillsWaits_50 fl1592_13 (by first | (exact MdL.k0 (by assumption)) | (assumption)) (fun r50 => ?_)
        rw [hlv2] at r50 ⊢
        refine x_iald_ dX13_fillsWaits_53 (by first | (exact MdL.k_men (by assumption)) | (assumption)) (by first | (exact MdL.x_men (by assumption) (by omega) (by omega)) | (omega)) (fun r53 => ?_)
        rw [hmen2] at r53 ⊢
        refine x_icmp_ge (tgt := 89) dX13_fillsWaits_54 rfl (by omega) (by omega) (fun c54 => ?_) (fun c54 => ?_)
        · refine x_iinc2 dX13_fillsWaits_89 rfl ?_
          refine x_goto (tgt := 4) dX13_fillsWaits_92 rfl ?_
          refine ih h2 _ hi ⟨u1, fun m y0 y1 => ?_⟩
          by_cases e : m = i
          · subst e
            rw [u3, show j = tM T by omega]
            rfl
          · exact u2 m y0 (by omega)
        · refine x_iload_3 dX13_fillsWaits_57 ?_
          refine x_iload_2 dX13_fillsWaits_58 ?_
          refine x_icmp_eq (tgt := 83) dX13_fillsWaits_59 rfl (by omega) (by omega) (fun c59 => ?_) (fun c59 => ?_)
          · refine x_iinc3 dX13_fillsWaits_83 rfl ?_
            refine x_goto (tgt := 44) dX13_fillsWaits_86 rfl ?_
            first
            | refine ih2 _ (by omega) ⟨fun a ha => ?_, fun m y0 y1 => ?_, ?_⟩
              · rw [am_st_o ha]
                exact u1 a ha
              · rw [am_st_i (by omega)]
                exact u2 m y0 y1
              · rw [am_st_s, bset_s _ z0, if_pos (wtP_t (by omega) (by omega))]
            | refine ih2 h2 (by omega) ⟨u1, u2, ?_⟩
              rw [u3, bset_s _ z0, if_neg (wtP_f (by omega))]
          · refine x_aload_0 dX13_fillsWaits_62 ?_
            refine x_iload_3 dX13_fillsWaits_63 ?_
            refine x_iload_2 dX13_fillsWaits_64 ?_
            refine x_callV2 dX13_fillsWaits_65 rfl okX13_overOf q2038 q2040 qs94 (by first | assumption | (exact MdL.k0 (by assumption))) am_k13 rfl (C_X13_overOf hL hR2 hI hT ⟨by omega, by omega⟩ ⟨by omega, by omega⟩ (x_k1 ?_))
            refine x_if_le (tgt := 83) dX13_fillsWaits_68 rfl (by have := ovR_bd hI hT (m := j) (n := i) ⟨by omega, by omega⟩ ⟨by omega, by omega⟩; omega) (fun c68 => ?_) (fun c68 => ?_)
            · refine x_iinc3 dX13_fillsWaits_83 rfl ?_
              refine x_goto (tgt := 44) dX13_fillsWaits_86 rfl ?_
              first
              | refine ih2 _ (by omega) ⟨fun a ha => ?_, fun m y0 y1 => ?_, ?_⟩
                · rw [am_st_o ha]
                  exact u1 a ha
                · rw [am_st_i (by omega)]
                  exact u2 m y0 y1
                · rw [am_st_s, bset_s _ z0, if_pos (wtP_t (by omega) (by omega))]
              | refine ih2 h2 (by omega) ⟨u1, u2, ?_⟩
                rw [u3, bset_s _ z0, if_neg (wtP_f (by omega))]
            · refine x_aload_0 dX13_fillsWaits_71 ?_
              refine x_getR dX13_fillsWaits_72 fl1634_13 rfl (by first | (exact MdL.k0 (by assumption)) | (assumption)) (by first | (exact MdL.v_waitsFor (by assumption)) | (assumption)) ?_
              refine x_iload_2 dX13_fillsWaits_75 ?_
              refine x_dup2 dX13_fillsWaits_76 rfl rfl ?_
              refine x_iald_ dX13_fillsWaits_77 (by first | (exact MdL.k_waitsFor (by assumption)) | (assumption)) (by first | (exact MdL.x_waitsFor (by assumption) (by omega) (by omega)) | (omega)) (fun r77 => ?_)
              rw [u3] at r77 ⊢
              refine x_iconst dX13_fillsWaits_78 ?_
              refine x_iload_3 dX13_fillsWaits_79 ?_
              refine x_ishl dX13_fillsWaits_80 ?_
              refine x_ior dX13_fillsWaits_81 ?_
              refine x_iast_ dX13_fillsWaits_82 (by first | (exact MdL.k_waitsFor (by assumption)) | (assumption)) (by first | (exact MdL.x_waitsFor (by assumption) (by omega) (by omega)) | (omega)) (by have := (bt_or bj (m := j) (o := 0) ⟨by omega, by omega⟩ ⟨by omega, by omega⟩).2; omega) ?_
              refine x_iinc3 dX13_fillsWaits_83 rfl ?_
              refine x_goto (tgt := 44) dX13_fillsWaits_86 rfl ?_
              first
              | refine ih2 _ (by omega) ⟨fun a ha => ?_, fun m y0 y1 => ?_, ?_⟩
                · rw [am_st_o ha]
                  exact u1 a ha
                · rw [am_st_i (by omega)]
                  exact u2 m y0 y1
                · rw [am_st_s, bset_s _ z0, if_pos (wtP_t (by omega) (by omega))]
              | refine ih2 h2 (by omega) ⟨u1, u2, ?_⟩
                rw [u3, bset_s _ z0, if_neg (wtP_f (by omega))]
      · rw [am_st_o ha]
        exact p1 a ha
      · rw [am_st_i (by omega)]
        exact p2 m z0 z1
      · rw [am_st_s]
        rfl
    · refine x_iload_1 dX13_fillsWaits_36 ?_
      refine x_iconst dX13_fillsWaits_37 ?_
      refine x_iload_2 dX13_fillsWaits_38 ?_
      refine x_ishl dX13_fillsWaits_39 ?_
      refine x_ior dX13_fillsWaits_40 ?_
      refine x_istore_1 dX13_fillsWaits_41 rfl ?_
      refine x_iconst dX13_fillsWaits_42 ?_
      refine x_istore_3 dX13_fillsWaits_43 rfl ?_
      have eo : bset (outP S) (i + 1).toNat = _ := bset_s (outP S) g0
      first | rw [if_pos (show outP S i = true from decide_eq_true (by omega))] at eo | rw [if_neg (show ¬ outP S i = true from fun z => absurd (of_decide_eq_true z) (by omega))] at eo
      rw [← eo]
      refine x_for (tM T) (fun j h2 => (∀ a, a ≠ (o + 41) → h2 a = h a) ∧ (∀ m, 0 ≤ m → m < i → h2 (o + 41) m = wtR T S m) ∧ h2 (o + 41) i = bset (wtP S i) j.toNat) (fun j h2 => am_X G mX13_fillsWaits (d + 2) 44 [aR o, aI (bset (outP S) (i + 1).toNat), aI i, aI j] [] L h2 Q) (fun j h2 z0 z1 hP ih2 => ?_) _ hM7.1 ⟨fun a ha => ?_, fun m z0 z1 => ?_, ?_⟩
      · obtain ⟨u1, u2, u3⟩ := hP
        have bj := (bset_ok (wtP S i) j.toNat (by omega)).1
        have hlv2 : h2 o 18 = s := by rw [u1 o (by omega)]; exact hlv
        have hmen2 : h2 (o + 11) s = tM T := by rw [u1 _ (by omega)]; exact hmen
        have hR2 : RwF (h2 (o + 38)) (tM T) S := by rw [u1 _ (by omega)]; exact hR
        refine x_iload_3 dX13_fillsWaits_44 ?_
        refine x_aload_0 dX13_fillsWaits_45 ?_
        refine x_getR dX13_fillsWaits_46 fl1598_13 rfl (by first | (exact MdL.k0 (by assumption)) | (assumption)) (by first | (exact MdL.v_men (by assumption)) | (assumption)) ?_
        refine x_aload_0 dX13_fillsWaits_49 ?_
        refine x_getI_ dX13_fillsWaits_50 fl1592_13 (by first | (exact MdL.k0 (by assumption)) | (assumption)) (fun r50 => ?_)
        rw [hlv2] at r50 ⊢
        refine x_iald_ dX13_fillsWaits_53 (by first | (exact MdL.k_men (by assumption)) | (assumption)) (by first | (exact MdL.x_men (by assumption) (by omega) (by omega)) | (omega)) (fun r53 => ?_)
        rw [hmen2] at r53 ⊢
        refine x_icmp_ge (tgt := 89) dX13_fillsWaits_54 rfl (by omega) (by omega) (fun c54 => ?_) (fun c54 => ?_)
        · refine x_iinc2 dX13_fillsWaits_89 rfl ?_
          refine x_goto (tgt := 4) dX13_fillsWaits_92 rfl ?_
          refine ih h2 _ hi ⟨u1, fun m y0 y1 => ?_⟩
          by_cases e : m = i
          · subst e
            rw [u3, show j = tM T by omega]
            rfl
          · exact u2 m y0 (by omega)
        · refine x_iload_3 dX13_fillsWaits_57 ?_
          refine x_iload_2 dX13_fillsWaits_58 ?_
          refine x_icmp_eq (tgt := 83) dX13_fillsWaits_59 rfl (by omega) (by omega) (fun c59 => ?_) (fun c59 => ?_)
          · refine x_iinc3 dX13_fillsWaits_83 rfl ?_
            refine x_goto (tgt := 44) dX13_fillsWaits_86 rfl ?_
            first
            | refine ih2 _ (by omega) ⟨fun a ha => ?_, fun m y0 y1 => ?_, ?_⟩
              · rw [am_st_o ha]
                exact u1 a ha
              · rw [am_st_i (by omega)]
                exact u2 m y0 y1
              · rw [am_st_s, bset_s _ z0, if_pos (wtP_t (by omega) (by omega))]
            | refine ih2 h2 (by omega) ⟨u1, u2, ?_⟩
              rw [u3, bset_s _ z0, if_neg (wtP_f (by omega))]
          · refine x_aload_0 dX13_fillsWaits_62 ?_
            refine x_iload_3 dX13_fillsWaits_63 ?_
            refine x_iload_2 dX13_fillsWaits_64 ?_
            refine x_callV2 dX13_fillsWaits_65 rfl okX13_overOf q2038 q2040 qs94 (by first | assumption | (exact MdL.k0 (by assumption))) am_k13 rfl (C_X13_overOf hL hR2 hI hT ⟨by omega, by omega⟩ ⟨by omega, by omega⟩ (x_k1 ?_))
            refine x_if_le (tgt := 83) dX13_fillsWaits_68 rfl (by have := ovR_bd hI hT (m := j) (n := i) ⟨by omega, by omega⟩ ⟨by omega, by omega⟩; omega) (fun c68 => ?_) (fun c68 => ?_)
            · refine x_iinc3 dX13_fillsWaits_83 rfl ?_
              refine x_goto (tgt := 44) dX13_fillsWaits_86 rfl ?_
              first
              | refine ih2 _ (by omega) ⟨fun a ha => ?_, fun m y0 y1 => ?_, ?_⟩
                · rw [am_st_o ha]
                  exact u1 a ha
                · rw [am_st_i (by omega)]
                  exact u2 m y0 y1
                · rw [am_st_s, bset_s _ z0, if_pos (wtP_t (by omega) (by omega))]
              | refine ih2 h2 (by omega) ⟨u1, u2, ?_⟩
                rw [u3, bset_s _ z0, if_neg (wtP_f (by omega))]
            · refine x_aload_0 dX13_fillsWaits_71 ?_
              refine x_getR dX13_fillsWaits_72 fl1634_13 rfl (by first | (exact MdL.k0 (by assumption)) | (assumption)) (by first | (exact MdL.v_waitsFor (by assumption)) | (assumption)) ?_
              refine x_iload_2 dX13_fillsWaits_75 ?_
              refine x_dup2 dX13_fillsWaits_76 rfl rfl ?_
              refine x_iald_ dX13_fillsWaits_77 (by first | (exact MdL.k_waitsFor (by assumption)) | (assumption)) (by first | (exact MdL.x_waitsFor (by assumption) (by omega) (by omega)) | (omega)) (fun r77 => ?_)
              rw [u3] at r77 ⊢
              refine x_iconst dX13_fillsWaits_78 ?_
              refine x_iload_3 dX13_fillsWaits_79 ?_
              refine x_ishl dX13_fillsWaits_80 ?_
              refine x_ior dX13_fillsWaits_81 ?_
              refine x_iast_ dX13_fillsWaits_82 (by first | (exact MdL.k_waitsFor (by assumption)) | (assumption)) (by first | (exact MdL.x_waitsFor (by assumption) (by omega) (by omega)) | (omega)) (by have := (bt_or bj (m := j) (o := 0) ⟨by omega, by omega⟩ ⟨by omega, by omega⟩).2; omega) ?_
              refine x_iinc3 dX13_fillsWaits_83 rfl ?_
              refine x_goto (tgt := 44) dX13_fillsWaits_86 rfl ?_
              first
              | refine ih2 _ (by omega) ⟨fun a ha => ?_, fun m y0 y1 => ?_, ?_⟩
                · rw [am_st_o ha]
                  exact u1 a ha
                · rw [am_st_i (by omega)]
                  exact u2 m y0 y1
                · rw [am_st_s, bset_s _ z0, if_pos (wtP_t (by omega) (by omega))]
              | refine ih2 h2 (by omega) ⟨u1, u2, ?_⟩
                rw [u3, bset_s _ z0, if_neg (wtP_f (by omega))]
      · rw [am_st_o ha]
        exact p1 a ha
      · rw [am_st_i (by omega)]
        exact p2 m z0 z1
      · rw [am_st_s]
        rfl
end OVER
