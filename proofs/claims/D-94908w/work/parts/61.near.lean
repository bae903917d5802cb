/-! OPERATIONS: nearest -/
set_option maxRecDepth 100000
section NEAR
variable {G : am_G} {d : Nat} {L : am_L} {h h' : am_H} {Q : am_O → am_L → am_H → Prop} {x o s t : Int} {T : Txt} {S : Row} {b q : Int}
theorem C_X0_apart {u v w z : Int} (h1 : 0 ≤ u ∧ u ≤ 100000) (h2 : 0 ≤ v ∧ v ≤ 100000) (h3 : 0 ≤ w ∧ w ≤ 100000) (h4 : 0 ≤ z ∧ z ≤ 100000) (k : Q (.inl [aI (apa u w + apa v z)]) L h) : am_C G mX0_apart (d + 1) [aI u, aI v, aI w, aI z] L h Q := by
  refine x_start okX0_apart rfl rfl rfl rfl ?_
  refine x_iload_0 dX0_apart_0 ?_
  refine x_iload_2 dX0_apart_1 ?_
  refine x_isub dX0_apart_2 ?_
  refine x_mabs dX0_apart_3 q1210 q1211 q135 q1212 rfl (by omega) ?_
  refine x_iload_1 dX0_apart_6 ?_
  refine x_iload_3 dX0_apart_7 ?_
  refine x_isub dX0_apart_8 ?_
  refine x_mabs dX0_apart_9 q1210 q1211 q135 q1212 rfl (by omega) ?_
  refine x_iadd dX0_apart_12 ?_
  refine x_iret dX0_apart_13 rfl ?_
  refine x_q1 ?_ k
  unfold apa
  (repeat' split) <;> omega
def farR (S : Row) (m n : Int) : Int := apa (rX S m) (rX S n) + apa (rY S m) (rY S n)
/-- who of the first n is nearest to m, how far -/
def nearI (S : Row) (m : Int) : Nat → Int × Int
  | 0 => (-2, -2)
  | n + 1 => if n = m ∨ (0 ≤ (nearI S m n).1 ∧ (nearI S m n).2 ≤ farR S m n) then nearI S m n else ((n : Int), farR S m n)
theorem nearI_s {m i : Int} (h : 0 ≤ i) : nearI S m (i + 1).toNat = if i = m ∨ (0 ≤ (nearI S m i.toNat).1 ∧ (nearI S m i.toNat).2 ≤ farR S m i) then nearI S m i.toNat else (i, farR S m i) := by
  rw [show (i + 1).toNat = i.toNat + 1 by omega]
  show (if ((i.toNat : Nat) : Int) = m ∨ (_ ∧ _ ≤ farR S m (i.toNat : Nat)) then _ else (((i.toNat : Nat) : Int), farR S m (i.toNat : Nat))) = _
  rw [show ((i.toNat : Nat) : Int) = i by omega]
theorem farR_bd (hI : RowI T S b q) (hT : TxtI T) {m n : Int} (hm : 0 ≤ m ∧ m < tM T) (hn : 0 ≤ n ∧ n < tM T) : 0 ≤ farR S m n ∧ farR S m n ≤ 24 := by
  have h1 := (hI.2.1 m hm.1 hm.2).1
  have h2 := (hI.2.1 n hn.1 hn.2).1
  unfold inT at h1 h2
  have := hT.2.1
  have := hT.2.2.1
  unfold farR apa
  (repeat' split) <;> omega
theorem nearI_bd (hI : RowI T S b q) (hT : TxtI T) {m : Int} (hm : 0 ≤ m ∧ m < tM T) : ∀ n : Nat, (n : Int) ≤ tM T → (-2 ≤ (nearI S m n).1 ∧ (nearI S m n).1 < 7) ∧ (-2 ≤ (nearI S m n).2 ∧ (nearI S m n).2 ≤ 24)
  | 0, _ => ⟨⟨by show (-2 : Int) ≤ -2; omega, by show (-2 : Int) < 7; omega⟩, ⟨by show (-2 : Int) ≤ -2; omega, by show (-2 : Int) ≤ 24; omega⟩⟩
  | n + 1, hn => by
    have h0 := nearI_bd hI hT hm n (by omega)
    have hf := farR_bd hI hT hm (n := n) ⟨by omega, by omega⟩
    have := hT.1
    unfold nearI
    split
    · exact h0
    · exact ⟨⟨by show (-2 : Int) ≤ n; omega, by show (n : Int) < 7; omega⟩, ⟨by show -2 ≤ farR S m n; omega, by show farR S m n ≤ 24; omega⟩⟩
def nearV (T : Txt) (S : Row) (m w : Int) : Int := if ¬ (0 ≤ m ∧ m < tM T) ∨ ¬ (0 ≤ w ∧ w ≤ 1) then -1 else if w = 0 then (nearI S m (tM T).toNat).1 else (nearI S m (tM T).toNat).2
set_option maxHeartbeats 4000000 in
theorem C_X0_nearest {m w : Int} (hC : CoT L h x t T S) (hT : TxtI T) (hI : RowI T S b q) (hm : rg32 m) (hw : rg32 w) (k : Q (.inl [aI (nearV T S m w)]) L h) : am_C G mX0_nearest (d + 430) [aR x, aI m, aI w] L h Q := by
  have hK := hC.mk
  have hM := hT.1
  have hcl := hC.cl
  have hwd := hT.2.1
  have hdp := hT.2.2.1
  refine x_start okX0_nearest rfl rfl rfl rfl ?_
  refine x_aload_0 dX0_nearest_0 ?_
  refine x_iload_1 dX0_nearest_1 ?_
  refine x_callV1 dX0_nearest_2 rfl okX0_isMan q1192 q1194 qs32 (by first | assumption | (exact MkL.k0 (by assumption))) am_k0 rfl (C_X0_isMan hC hT hm (x_k1 ?_))
  refine x_if_eq (tgt := 17) dX0_nearest_5 rfl (by split <;> omega) (fun c5 => ?_) (fun c5 => ?_)
  · skip
    refine x_iconst dX0_nearest_17 ?_
    refine x_iret dX0_nearest_18 rfl ?_
    refine x_q1 ?_ k
    unfold nearV
    rw [if_pos (by first | (split at c5 <;> omega) | (split at c14 <;> omega))]
  · refine x_iload_2 dX0_nearest_8 ?_
    refine x_iconst dX0_nearest_9 ?_
    refine x_iconst dX0_nearest_10 ?_
    refine x_callS3 dX0_nearest_11 rfl okX0_isIn q1201 q1202 rfl (C_X0_isIn hw ⟨by decide, by decide⟩ ⟨by decide, by decide⟩ (x_k1 ?_))
    refine x_if_ne (tgt := 19) dX0_nearest_14 rfl (by split <;> omega) (fun c14 => ?_) (fun c14 => ?_)
    · refine x_bipush dX0_nearest_19 rfl ?_
      refine x_istore_3 dX0_nearest_21 rfl ?_
      refine x_bipush dX0_nearest_22 rfl ?_
      refine x_istore4 dX0_nearest_24 rfl ?_
      refine x_iconst dX0_nearest_26 ?_
      refine x_istore5 dX0_nearest_27 rfl ?_
      have hm1 : 0 ≤ m ∧ m < tM T := by split at c5 <;> omega
      have hw1 : 0 ≤ w ∧ w ≤ 1 := by split at c14 <;> omega
      refine x_up1 (tM T) (fun i w6 => 0 ≤ i → i ≤ tM T → am_X G mX0_nearest (d + 430) 29 [aR x, aI m, aI w, aI (nearI S m i.toNat).1, aI (nearI S m i.toNat).2, aI i, w6] [] L h Q) (fun i w6 ih g0 g1 => ?_) 0 aU (by omega) hM.1
      have bd := nearI_bd hI hT hm1 i.toNat (by omega)
      have nxt : ∀ u v w6, i < tM T → (u, v) = nearI S m (i + 1).toNat → am_X G mX0_nearest (d + 430) 29 [aR x, aI m, aI w, aI u, aI v, aI (i + 1), w6] [] L h Q := fun u v w6 z e => by
        have := ih z w6 (by omega) (by omega)
        rw [← e] at this
        exact this
      refine x_iload5 dX0_nearest_29 ?_
      refine x_aload_0 dX0_nearest_31 ?_
      refine x_callV0 dX0_nearest_32 rfl okX0_men q1196 q1198 qs33 (by first | assumption | (exact MkL.k0 (by assumption))) am_k0 rfl (C_X0_men hC (x_k1 ?_))
      refine x_icmp_ge (tgt := 114) dX0_nearest_35 rfl (by omega) (by omega) (fun c35 => ?_) (fun c35 => ?_)
      · refine x_iload_2 dX0_nearest_114 ?_
        refine x_if_ne (tgt := 122) dX0_nearest_115 rfl (by omega) (fun c115 => ?_) (fun c115 => ?_)
        · refine x_iload4 dX0_nearest_122 ?_
          refine x_iret dX0_nearest_124 rfl ?_
          rw [show i = tM T by omega]
          refine x_q1 ?_ k
          unfold nearV
          rw [if_neg (by omega)]
          first | (rw [if_pos (by omega)]; done) | (rw [if_neg (by omega)]; done)
        · refine x_iload_3 dX0_nearest_118 ?_
          refine x_goto (tgt := 124) dX0_nearest_119 rfl ?_
          refine x_iret dX0_nearest_124 rfl ?_
          rw [show i = tM T by omega]
          refine x_q1 ?_ k
          unfold nearV
          rw [if_neg (by omega)]
          first | (rw [if_pos (by omega)]; done) | (rw [if_neg (by omega)]; done)
      · have hi : i < tM T := by omega
        obtain ⟨ex, ey, -⟩ := hC.rc.2.2.1 m hm1.1 hm1.2
        obtain ⟨ix, iy, -⟩ := hC.rc.2.2.1 i g0 hi
        have h1 := (hI.2.1 m hm1.1 hm1.2).1
        have h2 := (hI.2.1 i g0 hi).1
        unfold inT at h1 h2
        have hf := farR_bd hI hT hm1 (n := i) ⟨g0, hi⟩
        refine x_aload_0 dX0_nearest_38 ?_
        refine x_getR dX0_nearest_39 fl578_0 rfl (by first | (exact MkL.k0 (by assumption)) | (assumption)) (by first | (exact MkL.v_cloth (by assumption)) | (assumption)) ?_
        refine x_getR dX0_nearest_42 fl432_5 rfl (by first | (exact ClL.k0 (by assumption)) | (assumption)) (by first | (exact ClL.f0 (by assumption)) | (assumption)) ?_
        refine x_iload_1 dX0_nearest_45 ?_
        refine x_iald_ dX0_nearest_46 (by first | (exact ClL.k1 (by assumption)) | (assumption)) (by first | (exact ClL.r1 (by assumption) (by omega) (by omega)) | (omega)) (fun r46 => ?_)
        simp (disch := omega) only [ex, ix] at r46 ⊢
        refine x_aload_0 dX0_nearest_47 ?_
        refine x_getR dX0_nearest_48 fl578_0 rfl (by first | (exact MkL.k0 (by assumption)) | (assumption)) (by first | (exact MkL.v_cloth (by assumption)) | (assumption)) ?_
        refine x_getR dX0_nearest_51 fl434_5 rfl (by first | (exact ClL.k0 (by assumption)) | (assumption)) (by first | (exact ClL.f1 (by assumption)) | (assumption)) ?_
        refine x_iload_1 dX0_nearest_54 ?_
        refine x_iald_ dX0_nearest_55 (by first | (exact ClL.k2 (by assumption)) | (assumption)) (by first | (exact ClL.r2 (by assumption) (by omega) (by omega)) | (omega)) (fun r55 => ?_)
        simp (disch := omega) only [ey, iy] at r55 ⊢
        refine x_aload_0 dX0_nearest_56 ?_
        refine x_getR dX0_nearest_57 fl578_0 rfl (by first | (exact MkL.k0 (by assumption)) | (assumption)) (by first | (exact MkL.v_cloth (by assumption)) | (assumption)) ?_
        refine x_getR dX0_nearest_60 fl432_5 rfl (by first | (exact ClL.k0 (by assumption)) | (assumption)) (by first | (exact ClL.f0 (by assumption)) | (assumption)) ?_
        refine x_iload5 dX0_nearest_63 ?_
        refine x_iald_ dX0_nearest_65 (by first | (exact ClL.k1 (by assumption)) | (assumption)) (by first | (exact ClL.r1 (by assumption) (by omega) (by omega)) | (omega)) (fun r65 => ?_)
        simp (disch := omega) only [ex, ix] at r65 ⊢
        refine x_aload_0 dX0_nearest_66 ?_
        refine x_getR dX0_nearest_67 fl578_0 rfl (by first | (exact MkL.k0 (by assumption)) | (assumption)) (by first | (exact MkL.v_cloth (by assumption)) | (assumption)) ?_
        refine x_getR dX0_nearest_70 fl434_5 rfl (by first | (exact ClL.k0 (by assumption)) | (assumption)) (by first | (exact ClL.f1 (by assumption)) | (assumption)) ?_
        refine x_iload5 dX0_nearest_73 ?_
        refine x_iald_ dX0_nearest_75 (by first | (exact ClL.k2 (by assumption)) | (assumption)) (by first | (exact ClL.r2 (by assumption) (by omega) (by omega)) | (omega)) (fun r75 => ?_)
        simp (disch := omega) only [ey, iy] at r75 ⊢
        refine x_callS4 dX0_nearest_76 rfl okX0_apart q1359 q1360 rfl (C_X0_apart ⟨by omega, by omega⟩ ⟨by omega, by omega⟩ ⟨by omega, by omega⟩ ⟨by omega, by omega⟩ (x_k1 ?_))
        show am_X G mX0_nearest _ 79 _ [aI (farR S m i)] _ _ _
        refine x_istore6 dX0_nearest_79 rfl ?_
        refine x_iload5 dX0_nearest_81 ?_
        refine x_iload_1 dX0_nearest_83 ?_
        refine x_icmp_eq (tgt := 108) dX0_nearest_84 rfl (by omega) (by omega) (fun c84 => ?_) (fun c84 => ?_)
        · refine x_iinc5 dX0_nearest_108 rfl ?_
          refine x_goto (tgt := 29) dX0_nearest_111 rfl ?_
          refine nxt _ _ _ hi ?_
          rw [nearI_s g0]
          first | (rw [if_pos (by omega)]; done) | (rw [if_neg (by omega)]; done)
        · refine x_iload_3 dX0_nearest_87 ?_
          refine x_if_lt (tgt := 101) dX0_nearest_88 rfl (by omega) (fun c88 => ?_) (fun c88 => ?_)
          · refine x_iload5 dX0_nearest_101 ?_
            refine x_istore_3 dX0_nearest_103 rfl ?_
            refine x_iload6 dX0_nearest_104 ?_
            refine x_istore4 dX0_nearest_106 rfl ?_
            refine x_iinc5 dX0_nearest_108 rfl ?_
            refine x_goto (tgt := 29) dX0_nearest_111 rfl ?_
            refine nxt _ _ _ hi ?_
            rw [nearI_s g0]
            first | (rw [if_pos (by omega)]; done) | (rw [if_neg (by omega)]; done)
          · refine x_iload6 dX0_nearest_91 ?_
            refine x_iload4 dX0_nearest_93 ?_
            refine x_icmp_lt (tgt := 101) dX0_nearest_95 rfl (by omega) (by omega) (fun c95 => ?_) (fun c95 => ?_)
            · refine x_iload5 dX0_nearest_101 ?_
              refine x_istore_3 dX0_nearest_103 rfl ?_
              refine x_iload6 dX0_nearest_104 ?_
              refine x_istore4 dX0_nearest_106 rfl ?_
              refine x_iinc5 dX0_nearest_108 rfl ?_
              refine x_goto (tgt := 29) dX0_nearest_111 rfl ?_
              refine nxt _ _ _ hi ?_
              rw [nearI_s g0]
              first | (rw [if_pos (by omega)]; done) | (rw [if_neg (by omega)]; done)
            · refine x_goto (tgt := 108) dX0_nearest_98 rfl ?_
              refine x_iinc5 dX0_nearest_108 rfl ?_
              refine x_goto (tgt := 29) dX0_nearest_111 rfl ?_
              refine nxt _ _ _ hi ?_
              rw [nearI_s g0]
              first | (rw [if_pos (by omega)]; done) | (rw [if_neg (by omega)]; done)
    · skip
      refine x_iconst dX0_nearest_17 ?_
      refine x_iret dX0_nearest_18 rfl ?_
      refine x_q1 ?_ k
      unfold nearV
      rw [if_pos (by first | (split at c5 <;> omega) | (split at c14 <;> omega))]
set_option maxHeartbeats 4000000 in
theorem C_X13_nearest {m w : Int} (hC : TwT L h o s T S) (hT : TxtI T) (hI : RowI T S b q) (hm : rg32 m) (hw : rg32 w) (k : Q (.inl [aI (nearV T S m w)]) L h) : am_C G mX13_nearest (d + 12) [aR o, aI m, aI w] L h Q := by
  have hM := hC.1
  have hL := hM.1
  have hs := hM.2.1
  have hlv := hM.2.2.1
  have hmen := hM.2.2.2.1
  have hM7 := hT.1
  have hwd := hT.2.1
  have hdp := hT.2.2.1
  refine x_start okX13_nearest rfl rfl rfl rfl ?_
  refine x_aload_0 dX13_nearest_0 ?_
  refine x_iload_1 dX13_nearest_1 ?_
  refine x_callV1 dX13_nearest_2 rfl okX13_isMan q1927 q1929 qs80 (by first | assumption | (exact MdL.k0 (by assumption))) am_k13 rfl (C_X13_isMan hM hT hm (x_k1 ?_))
  refine x_if_eq (tgt := 17) dX13_nearest_5 rfl (by split <;> omega) (fun c5 => ?_) (fun c5 => ?_)
  · skip
    refine x_iconst dX13_nearest_17 ?_
    refine x_iret dX13_nearest_18 rfl ?_
    refine x_q1 ?_ k
    unfold nearV
    rw [if_pos (by first | (split at c5 <;> omega) | (split at c14 <;> omega))]
  · refine x_iload_2 dX13_nearest_8 ?_
    refine x_iconst dX13_nearest_9 ?_
    refine x_iconst dX13_nearest_10 ?_
    refine x_callS3 dX13_nearest_11 rfl okX13_in q1931 q1932 rfl (C_X13_in hw ⟨by decide, by decide⟩ ⟨by decide, by decide⟩ (x_k1 ?_))
    refine x_if_ne (tgt := 19) dX13_nearest_14 rfl (by split <;> omega) (fun c14 => ?_) (fun c14 => ?_)
    · refine x_bipush dX13_nearest_19 rfl ?_
      refine x_istore_3 dX13_nearest_21 rfl ?_
      refine x_bipush dX13_nearest_22 rfl ?_
      refine x_istore4 dX13_nearest_24 rfl ?_
      refine x_iconst dX13_nearest_26 ?_
      refine x_istore5 dX13_nearest_27 rfl ?_
      have hm1 : 0 ≤ m ∧ m < tM T := by split at c5 <;> omega
      have hw1 : 0 ≤ w ∧ w ≤ 1 := by split at c14 <;> omega
      refine x_up1 (tM T) (fun i w6 => 0 ≤ i → i ≤ tM T → am_X G mX13_nearest (d + 12) 29 [aR o, aI m, aI w, aI (nearI S m i.toNat).1, aI (nearI S m i.toNat).2, aI i, w6] [] L h Q) (fun i w6 ih g0 g1 => ?_) 0 aU (by omega) hM7.1
      have bd := nearI_bd hI hT hm1 i.toNat (by omega)
      have nxt : ∀ u v w6, i < tM T → (u, v) = nearI S m (i + 1).toNat → am_X G mX13_nearest (d + 12) 29 [aR o, aI m, aI w, aI u, aI v, aI (i + 1), w6] [] L h Q := fun u v w6 z e => by
        have := ih z w6 (by omega) (by omega)
        rw [← e] at this
        exact this
      refine x_iload5 dX13_nearest_29 ?_
      refine x_aload_0 dX13_nearest_31 ?_
      refine x_getR dX13_nearest_32 fl1598_13 rfl (by first | (exact MdL.k0 (by assumption)) | (assumption)) (by first | (exact MdL.v_men (by assumption)) | (assumption)) ?_
      refine x_aload_0 dX13_nearest_35 ?_
      refine x_getI_ dX13_nearest_36 fl1592_13 (by first | (exact MdL.k0 (by assumption)) | (assumption)) (fun r36 => ?_)
      rw [hlv] at r36 ⊢
      refine x_iald_ dX13_nearest_39 (by first | (exact MdL.k_men (by assumption)) | (assumption)) (by first | (exact MdL.x_men (by assumption) (by omega) (by omega)) | (omega)) (fun r39 => ?_)
      rw [hmen] at r39 ⊢
      refine x_icmp_ge (tgt := 117) dX13_nearest_40 rfl (by omega) (by omega) (fun c40 => ?_) (fun c40 => ?_)
      · refine x_iload_2 dX13_nearest_117 ?_
        refine x_if_ne (tgt := 125) dX13_nearest_118 rfl (by omega) (fun c118 => ?_) (fun c118 => ?_)
        · refine x_iload4 dX13_nearest_125 ?_
          refine x_iret dX13_nearest_127 rfl ?_
          rw [show i = tM T by omega]
          refine x_q1 ?_ k
          unfold nearV
          rw [if_neg (by omega)]
          first | (rw [if_pos (by omega)]; done) | (rw [if_neg (by omega)]; done)
        · refine x_iload_3 dX13_nearest_121 ?_
          refine x_goto (tgt := 127) dX13_nearest_122 rfl ?_
          refine x_iret dX13_nearest_127 rfl ?_
          rw [show i = tM T by omega]
          refine x_q1 ?_ k
          unfold nearV
          rw [if_neg (by omega)]
          first | (rw [if_pos (by omega)]; done) | (rw [if_neg (by omega)]; done)
      · have hi : i < tM T := by omega
        obtain ⟨ex, ey⟩ := hC.2.2.1 m hm1.1 hm1.2
        obtain ⟨ix, iy⟩ := hC.2.2.1 i g0 hi
        have h1 := (hI.2.1 m hm1.1 hm1.2).1
        have h2 := (hI.2.1 i g0 hi).1
        unfold inT at h1 h2
        have hf := farR_bd hI hT hm1 (n := i) ⟨g0, hi⟩
        refine x_aload_0 dX13_nearest_43 ?_
        refine x_getR dX13_nearest_44 fl1629_13 rfl (by first | (exact MdL.k0 (by assumption)) | (assumption)) (by first | (exact MdL.v_now (by assumption)) | (assumption)) ?_
        refine x_iload_1 dX13_nearest_47 ?_
        refine x_iald_ dX13_nearest_48 (by first | (exact MdL.k_now (by assumption)) | (assumption)) (by first | (exact MdL.x_now (by assumption) (by omega) (by omega)) | (omega)) (fun r48 => ?_)
        simp (disch := omega) only [ex, ix, ey, iy] at r48 ⊢
        refine x_aload_0 dX13_nearest_49 ?_
        refine x_getR dX13_nearest_50 fl1629_13 rfl (by first | (exact MdL.k0 (by assumption)) | (assumption)) (by first | (exact MdL.v_now (by assumption)) | (assumption)) ?_
        refine x_iload5 dX13_nearest_53 ?_
        refine x_iald_ dX13_nearest_55 (by first | (exact MdL.k_now (by assumption)) | (assumption)) (by first | (exact MdL.x_now (by assumption) (by omega) (by omega)) | (omega)) (fun r55 => ?_)
        simp (disch := omega) only [ex, ix, ey, iy] at r55 ⊢
        refine x_callS2 dX13_nearest_56 rfl okX13_apart q1954 q1955 rfl (C_X13_apart ⟨by omega, by omega⟩ ⟨by omega, by omega⟩ (x_k1 ?_))
        refine x_aload_0 dX13_nearest_59 ?_
        refine x_getR dX13_nearest_60 fl1629_13 rfl (by first | (exact MdL.k0 (by assumption)) | (assumption)) (by first | (exact MdL.v_now (by assumption)) | (assumption)) ?_
        refine x_bipush dX13_nearest_63 rfl ?_
        refine x_iload_1 dX13_nearest_65 ?_
        refine x_iadd dX13_nearest_66 ?_
        refine x_iald_ dX13_nearest_67 (by first | (exact MdL.k_now (by assumption)) | (assumption)) (by first | (exact MdL.x_now (by assumption) (by omega) (by omega)) | (omega)) (fun r67 => ?_)
        simp (disch := omega) only [ex, ix, ey, iy] at r67 ⊢
        refine x_aload_0 dX13_nearest_68 ?_
        refine x_getR dX13_nearest_69 fl1629_13 rfl (by first | (exact MdL.k0 (by assumption)) | (assumption)) (by first | (exact MdL.v_now (by assumption)) | (assumption)) ?_
        refine x_bipush dX13_nearest_72 rfl ?_
        refine x_iload5 dX13_nearest_74 ?_
        refine x_iadd dX13_nearest_76 ?_
        refine x_iald_ dX13_nearest_77 (by first | (exact MdL.k_now (by assumption)) | (assumption)) (by first | (exact MdL.x_now (by assumption) (by omega) (by omega)) | (omega)) (fun r77 => ?_)
        simp (disch := omega) only [ex, ix, ey, iy] at r77 ⊢
        refine x_callS2 dX13_nearest_78 rfl okX13_apart q1954 q1955 rfl (C_X13_apart ⟨by omega, by omega⟩ ⟨by omega, by omega⟩ (x_k1 ?_))
        refine x_iadd dX13_nearest_81 ?_
        show am_X G mX13_nearest _ 82 _ [aI (farR S m i)] _ _ _
        refine x_istore6 dX13_nearest_82 rfl ?_
        refine x_iload5 dX13_nearest_84 ?_
        refine x_iload_1 dX13_nearest_86 ?_
        refine x_icmp_eq (tgt := 111) dX13_nearest_87 rfl (by omega) (by omega) (fun c87 => ?_) (fun c87 => ?_)
        · refine x_iinc5 dX13_nearest_111 rfl ?_
          refine x_goto (tgt := 29) dX13_nearest_114 rfl ?_
          refine nxt _ _ _ hi ?_
          rw [nearI_s g0]
          first | (rw [if_pos (by omega)]; done) | (rw [if_neg (by omega)]; done)
        · refine x_iload_3 dX13_nearest_90 ?_
          refine x_if_lt (tgt := 104) dX13_nearest_91 rfl (by omega) (fun c91 => ?_) (fun c91 => ?_)
          · refine x_iload5 dX13_nearest_104 ?_
            refine x_istore_3 dX13_nearest_106 rfl ?_
            refine x_iload6 dX13_nearest_107 ?_
            refine x_istore4 dX13_nearest_109 rfl ?_
            refine x_iinc5 dX13_nearest_111 rfl ?_
            refine x_goto (tgt := 29) dX13_nearest_114 rfl ?_
            refine nxt _ _ _ hi ?_
            rw [nearI_s g0]
            first | (rw [if_pos (by omega)]; done) | (rw [if_neg (by omega)]; done)
          · refine x_iload6 dX13_nearest_94 ?_
            refine x_iload4 dX13_nearest_96 ?_
            refine x_icmp_lt (tgt := 104) dX13_nearest_98 rfl (by omega) (by omega) (fun c98 => ?_) (fun c98 => ?_)
            · refine x_iload5 dX13_nearest_104 ?_
              refine x_istore_3 dX13_nearest_106 rfl ?_
              refine x_iload6 dX13_nearest_107 ?_
              refine x_istore4 dX13_nearest_109 rfl ?_
              refine x_iinc5 dX13_nearest_111 rfl ?_
              refine x_goto (tgt := 29) dX13_nearest_114 rfl ?_
              refine nxt _ _ _ hi ?_
              rw [nearI_s g0]
              first | (rw [if_pos (by omega)]; done) | (rw [if_neg (by omega)]; done)
            · refine x_goto (tgt := 111) dX13_nearest_101 rfl ?_
              refine x_iinc5 dX13_nearest_111 rfl ?_
              refine x_goto (tgt := 29) dX13_nearest_114 rfl ?_
              refine nxt _ _ _ hi ?_
              rw [nearI_s g0]
              first | (rw [if_pos (by omega)]; done) | (rw [if_neg (by omega)]; done)
    · skip
      refine x_iconst dX13_nearest_17 ?_
      refine x_iret dX13_nearest_18 rfl ?_
      refine x_q1 ?_ k
      unfold nearV
      rw [if_pos (by first | (split at c5 <;> omega) | (split at c14 <;> omega))]
end NEAR
