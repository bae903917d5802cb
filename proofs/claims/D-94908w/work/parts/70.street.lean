/-! STREETS: isStreet, whoseAt, topOf, street, shows, shown, uppermost -/
set_option maxRecDepth 100000
section STREET
variable {G : am_G} {d : Nat} {L : am_L} {h h' : am_H} {Q : am_O → am_L → am_H → Prop} {x o s t : Int} {T : Txt} {S : Row} {b q : Int}
abbrev okSt (T : Txt) (u v w : Int) : Prop := (1 ≤ w ∧ w ≤ 4) ∧ (0 ≤ u ∧ u < tWide T ∧ 0 ≤ v ∧ v < tDeep T) ∧ (0 ≤ u + dX w ∧ u + dX w < tWide T ∧ 0 ≤ v + dY w ∧ v + dY w < tDeep T)
theorem okSt_bd (hT : TxtI T) {u v w : Int} (h : okSt T u v w) : 0 ≤ stO u v w ∧ stO u v w < 288 := by
  have := hT.2.1
  have := hT.2.2.1
  unfold okSt at h
  unfold stO
  (repeat' split) <;> omega
theorem C_X0_isStreet {u v w : Int} (hC : CoT L h x t T S) (hT : TxtI T) (hu : rg32 u) (hv : rg32 v) (hw : rg32 w) (k : Q (.inl [aI (if okSt T u v w then 1 else 0)]) L h) : am_C G mX0_isStreet (d + 2) [aR x, aI u, aI v, aI w] L h Q := by
  have hK := hC.mk
  have htx := hC.tx
  have hht := hC.ht
  have hwd := hT.2.1
  have hdp := hT.2.2.1
  have bdx := dX_bd w
  have bdy := dY_bd w
  refine x_start okX0_isStreet rfl rfl rfl rfl ?_
  refine x_iload_3 dX0_isStreet_0 ?_
  refine x_iconst dX0_isStreet_1 ?_
  refine x_iconst dX0_isStreet_2 ?_
  refine x_callS3 dX0_isStreet_3 rfl okX0_isIn q1201 q1202 rfl (C_X0_isIn hw ⟨by decide, by decide⟩ ⟨by decide, by decide⟩ (x_k1 ?_))
  refine x_if_eq (tgt := 47) dX0_isStreet_6 rfl (by split <;> omega) (fun c6 => ?_) (fun c6 => ?_)
  · refine x_iconst dX0_isStreet_47 ?_
    refine x_zret dX0_isStreet_48 rfl (by omega) ?_
    refine x_q1 ?_ k
    rw [if_neg (fun z => by obtain ⟨z1, z2, z3⟩ := z; first | (rw [if_pos z1] at c6; omega) | (rw [if_pos z2] at c18; omega))]
  · refine x_aload_0 dX0_isStreet_9 ?_
    refine x_getW dX0_isStreet_10 fl574_0 rfl (by first | (exact MkL.k0 (by assumption)) | (assumption)) (by assumption) ?_
    refine x_iload_1 dX0_isStreet_13 ?_
    refine x_iload_2 dX0_isStreet_14 ?_
    refine x_callV2 dX0_isStreet_15 rfl okX4_isIn q1399 q1181 q1182 (by first | assumption | (exact TxL.k0 (by assumption))) am_k4 rfl (C_X4_isIn hu hv hT htx (x_k1 ?_))
    refine x_if_eq (tgt := 47) dX0_isStreet_18 rfl (by split <;> omega) (fun c18 => ?_) (fun c18 => ?_)
    · refine x_iconst dX0_isStreet_47 ?_
      refine x_zret dX0_isStreet_48 rfl (by omega) ?_
      refine x_q1 ?_ k
      rw [if_neg (fun z => by obtain ⟨z1, z2, z3⟩ := z; first | (rw [if_pos z1] at c6; omega) | (rw [if_pos z2] at c18; omega))]
    · have hw1 : 1 ≤ w ∧ w ≤ 4 := by split at c6 <;> omega
      have hin : 0 ≤ u ∧ u < tWide T ∧ 0 ≤ v ∧ v < tDeep T := by split at c18 <;> first | assumption | omega
      refine x_aload_0 dX0_isStreet_21 ?_
      refine x_getW dX0_isStreet_22 fl574_0 rfl (by first | (exact MkL.k0 (by assumption)) | (assumption)) (by assumption) ?_
      refine x_iload_1 dX0_isStreet_25 ?_
      refine x_iload_3 dX0_isStreet_26 ?_
      refine x_callS1 dX0_isStreet_27 rfl okX0_byX q1256 q1247 rfl (C_X0_byX hw (x_k1 ?_))
      refine x_iadd dX0_isStreet_30 ?_
      refine x_iload_2 dX0_isStreet_31 ?_
      refine x_iload_3 dX0_isStreet_32 ?_
      refine x_callS1 dX0_isStreet_33 rfl okX0_byY q1258 q1250 rfl (C_X0_byY hw (x_k1 ?_))
      refine x_iadd dX0_isStreet_36 ?_
      refine x_callV2 dX0_isStreet_37 rfl okX4_isIn q1399 q1181 q1182 (by first | assumption | (exact TxL.k0 (by assumption))) am_k4 rfl (C_X4_isIn (x := u + dX w) (y := v + dY w) ⟨by omega, by omega⟩ ⟨by omega, by omega⟩ hT htx (x_k1 ?_))
      refine x_if_eq (tgt := 47) dX0_isStreet_40 rfl (by split <;> omega) (fun c40 => ?_) (fun c40 => ?_)
      · refine x_iconst dX0_isStreet_47 ?_
        refine x_zret dX0_isStreet_48 rfl (by omega) ?_
        refine x_q1 ?_ k
        first
        | (rw [if_pos ⟨hw1, hin, by split at c40 <;> first | assumption | omega⟩]; done)
        | (rw [if_neg (fun z => by obtain ⟨z1, z2, z3⟩ := z; rw [if_pos z3] at c40; omega)]; done)
      · refine x_iconst dX0_isStreet_43 ?_
        refine x_goto (tgt := 48) dX0_isStreet_44 rfl ?_
        refine x_zret dX0_isStreet_48 rfl (by omega) ?_
        refine x_q1 ?_ k
        first
        | (rw [if_pos ⟨hw1, hin, by split at c40 <;> first | assumption | omega⟩]; done)
        | (rw [if_neg (fun z => by obtain ⟨z1, z2, z3⟩ := z; rw [if_pos z3] at c40; omega)]; done)
theorem C_X13_isStreet {u v w : Int} (hM : MdT L h o s T) (hT : TxtI T) (hu : rg32 u) (hv : rg32 v) (hw : rg32 w) (k : Q (.inl [aI (if okSt T u v w then 1 else 0)]) L h) : am_C G mX13_isStreet (d + 3) [aR o, aI u, aI v, aI w] L h Q := by
  have hL := hM.1
  have hwd := hT.2.1
  have hdp := hT.2.2.1
  have bdx := dX_bd w
  have bdy := dY_bd w
  refine x_start okX13_isStreet rfl rfl rfl rfl ?_
  refine x_iload_3 dX13_isStreet_0 ?_
  refine x_iconst dX13_isStreet_1 ?_
  refine x_iconst dX13_isStreet_2 ?_
  refine x_callS3 dX13_isStreet_3 rfl okX13_in q1931 q1932 rfl (C_X13_in hw ⟨by decide, by decide⟩ ⟨by decide, by decide⟩ (x_k1 ?_))
  refine x_if_eq (tgt := 41) dX13_isStreet_6 rfl (by split <;> omega) (fun c6 => ?_) (fun c6 => ?_)
  · refine x_iconst dX13_isStreet_41 ?_
    refine x_zret dX13_isStreet_42 rfl (by omega) ?_
    refine x_q1 ?_ k
    rw [if_neg (fun z => by obtain ⟨z1, z2, z3⟩ := z; first | (rw [if_pos z1] at c6; omega) | (rw [if_pos z2] at c15; omega))]
  · refine x_aload_0 dX13_isStreet_9 ?_
    refine x_iload_1 dX13_isStreet_10 ?_
    refine x_iload_2 dX13_isStreet_11 ?_
    refine x_callV2 dX13_isStreet_12 rfl okX13_isCorner q1990 q1992 qs89 (by first | assumption | (exact MdL.k0 (by assumption))) am_k13 rfl (C_X13_isCorner hM hT hu hv (x_k1 ?_))
    refine x_if_eq (tgt := 41) dX13_isStreet_15 rfl (by split <;> omega) (fun c15 => ?_) (fun c15 => ?_)
    · refine x_iconst dX13_isStreet_41 ?_
      refine x_zret dX13_isStreet_42 rfl (by omega) ?_
      refine x_q1 ?_ k
      rw [if_neg (fun z => by obtain ⟨z1, z2, z3⟩ := z; first | (rw [if_pos z1] at c6; omega) | (rw [if_pos z2] at c15; omega))]
    · have hw1 : 1 ≤ w ∧ w ≤ 4 := by split at c6 <;> omega
      have hin : 0 ≤ u ∧ u < tWide T ∧ 0 ≤ v ∧ v < tDeep T := by split at c15 <;> first | assumption | omega
      refine x_aload_0 dX13_isStreet_18 ?_
      refine x_iload_1 dX13_isStreet_19 ?_
      refine x_iload_3 dX13_isStreet_20 ?_
      refine x_callS1 dX13_isStreet_21 rfl okX13_dx q1984 q1985 rfl (C_X13_dx hw (x_k1 ?_))
      refine x_iadd dX13_isStreet_24 ?_
      refine x_iload_2 dX13_isStreet_25 ?_
      refine x_iload_3 dX13_isStreet_26 ?_
      refine x_callS1 dX13_isStreet_27 rfl okX13_dy q1987 q1988 rfl (C_X13_dy hw (x_k1 ?_))
      refine x_iadd dX13_isStreet_30 ?_
      refine x_callV2 dX13_isStreet_31 rfl okX13_isCorner q1990 q1992 qs89 (by first | assumption | (exact MdL.k0 (by assumption))) am_k13 rfl (C_X13_isCorner (x := u + dX w) (y := v + dY w) hM hT ⟨by omega, by omega⟩ ⟨by omega, by omega⟩ (x_k1 ?_))
      refine x_if_eq (tgt := 41) dX13_isStreet_34 rfl (by split <;> omega) (fun c34 => ?_) (fun c34 => ?_)
      · refine x_iconst dX13_isStreet_41 ?_
        refine x_zret dX13_isStreet_42 rfl (by omega) ?_
        refine x_q1 ?_ k
        first
        | (rw [if_pos ⟨hw1, hin, by split at c34 <;> first | assumption | omega⟩]; done)
        | (rw [if_neg (fun z => by obtain ⟨z1, z2, z3⟩ := z; rw [if_pos z3] at c34; omega)]; done)
      · refine x_iconst dX13_isStreet_37 ?_
        refine x_goto (tgt := 42) dX13_isStreet_38 rfl ?_
        refine x_zret dX13_isStreet_42 rfl (by omega) ?_
        refine x_q1 ?_ k
        first
        | (rw [if_pos ⟨hw1, hin, by split at c34 <;> first | assumption | omega⟩]; done)
        | (rw [if_neg (fun z => by obtain ⟨z1, z2, z3⟩ := z; rw [if_pos z3] at c34; omega)]; done)
theorem othR_bd (hI : RowI T S b q) (hT : TxtI T) (sv tv ab : Int) : 0 ≤ othR S (tM T) sv tv ab ∧ othR S (tM T) sv tv ab ≤ 420 := by
  have h7 := hT.1
  have := arS_bd (M := tM T) (n := rN S) (s := rS S) (t := rT S) (sv := sv) (tv := tv) (ab := ab) h7.1 (fun o z0 z1 => hI.n60 hT o z0 (by omega))
  unfold othR
  omega
set_option maxHeartbeats 4000000 in
theorem C_X13_whoseAt {st un sv : Int} (hM : MdT L h o s T) (hT : TxtI T) (hR : RwF (h (o + 38)) (tM T) S) (hI : RowI T S b q) (hq : q ≤ 100000) (hss : ∀ m k, 0 ≤ m → m < tM T → 0 ≤ k → k < rN S m → (s2 (rS S m k) = st ↔ rS S m k = sv)) (h1 : rg32 st) (h2 : rg32 un) (k : ∀ r, whoP T S sv un r → Q (.inl [aI r]) L h) : am_C G mX13_whoseAt (d + 2) [aR o, aI st, aI un] L h Q := by
  have hM0 := hM
  obtain ⟨hL, hs, hlv, hmen, -⟩ := hM
  have hM7 := hT.1
  have bq := hI.2.2.2.2.2.2.2
  refine x_start okX13_whoseAt rfl rfl rfl rfl ?_
  refine x_iconst dX13_whoseAt_0 ?_
  refine x_istore_3 dX13_whoseAt_1 rfl ?_
  skip
  refine x_up2 (tM T) (fun i w4 w5 => 0 ≤ i → i ≤ tM T → (∀ m k, 0 ≤ m → m < i → 0 ≤ k → k < rN S m → rS S m k = sv → undR T S sv (rT S m k) ≠ un) → am_X G mX13_whoseAt (d + 2) 2 [aR o, aI st, aI un, aI i, w4, w5] [] L h Q) (fun i w4 w5 ih g0 g1 g2 => ?_) 0 aU aU (by omega) hM7.1 (fun m k z0 z1 => by omega)
  refine x_iload_3 dX13_whoseAt_2 ?_
  refine x_aload_0 dX13_whoseAt_3 ?_
  refine x_getR dX13_whoseAt_4 fl1598_13 rfl (by first | (exact MdL.k0 (by assumption)) | (assumption)) (by first | (exact MdL.v_men (by assumption)) | (assumption)) ?_
  refine x_aload_0 dX13_whoseAt_7 ?_
  refine x_getI_ dX13_whoseAt_8 fl1592_13 (by first | (exact MdL.k0 (by assumption)) | (assumption)) (fun r8 => ?_)
  rw [hlv] at r8 ⊢
  refine x_iald_ dX13_whoseAt_11 (by first | (exact MdL.k_men (by assumption)) | (assumption)) (by first | (exact MdL.x_men (by assumption) (by omega) (by omega)) | (omega)) (fun r11 => ?_)
  rw [hmen] at r11 ⊢
  refine x_icmp_ge (tgt := 91) dX13_whoseAt_12 rfl (by omega) (by omega) (fun c12 => ?_) (fun c12 => ?_)
  · refine x_iconst dX13_whoseAt_91 ?_
    refine x_iret dX13_whoseAt_92 rfl ?_
    exact k _ (Or.inl ⟨rfl, fun m k z0 z1 => g2 m k z0 (by omega)⟩)
  · refine x_iconst dX13_whoseAt_15 ?_
    refine x_istore4 dX13_whoseAt_16 rfl ?_
    have hi : i < tM T := by omega
    have en := (hR.1 i g0 (by omega)).1
    have bn := hI.n60 hT i g0 (by omega)
    refine x_up1 (rN S i) (fun j w5 => 0 ≤ j → j ≤ rN S i → (∀ k, 0 ≤ k → k < j → rS S i k = sv → undR T S sv (rT S i k) ≠ un) → am_X G mX13_whoseAt (d + 2) 18 [aR o, aI st, aI un, aI i, aI j, w5] [] L h Q) (fun j w5 ih2 y0 y1 y2 => ?_) 0 _ (by omega) bn.1 (fun k z0 z1 => by omega)
    refine x_iload4 dX13_whoseAt_18 ?_
    refine x_aload_0 dX13_whoseAt_20 ?_
    refine x_getR dX13_whoseAt_21 fl1630_13 rfl (by first | (exact MdL.k0 (by assumption)) | (assumption)) (by first | (exact MdL.v_row (by assumption)) | (assumption)) ?_
    refine x_bipush dX13_whoseAt_24 rfl ?_
    refine x_iload_3 dX13_whoseAt_26 ?_
    refine x_iadd dX13_whoseAt_27 ?_
    refine x_iald_ dX13_whoseAt_28 (by first | (exact MdL.k_row (by assumption)) | (assumption)) (by first | (exact MdL.x_row (by assumption) (by omega) (by omega)) | (omega)) (fun r28 => ?_)
    simp (disch := omega) only [en] at r28 ⊢
    refine x_icmp_ge (tgt := 85) dX13_whoseAt_29 rfl (by omega) (by omega) (fun c29 => ?_) (fun c29 => ?_)
    · refine x_iinc3 dX13_whoseAt_85 rfl ?_
      refine x_goto (tgt := 2) dX13_whoseAt_88 rfl ?_
      refine ih hi _ _ (by omega) (by omega) (fun m k z0 z1 z2 z3 => ?_)
      by_cases e : m = i
      · subst e
        exact y2 k z2 (by omega)
      · exact g2 m k z0 (by omega) z2 z3
    · have hj : j < rN S i := by omega
      obtain ⟨ew, et, es⟩ := hR.2.2.1 i j g0 (by omega) y0 hj
      have hsj := hss i j g0 hi y0 hj
      have bt := (hI.2.2.1 i j g0 hi y0 hj).2.1
      have bss := s2_bd (hI.st hT i j g0 hi y0 hj)
      have bo := othR_bd hI hT sv (rT S i j) 0
      have hund : undR T S sv (rT S i j) = othR S (tM T) sv (rT S i j) 0 := rfl
      refine x_bipush dX13_whoseAt_32 rfl ?_
      refine x_iload_3 dX13_whoseAt_34 ?_
      refine x_imul dX13_whoseAt_35 ?_
      refine x_iload4 dX13_whoseAt_36 ?_
      refine x_iadd dX13_whoseAt_38 ?_
      refine x_istore5 dX13_whoseAt_39 rfl ?_
      refine x_aload_0 dX13_whoseAt_41 ?_
      refine x_getR dX13_whoseAt_42 fl1630_13 rfl (by first | (exact MdL.k0 (by assumption)) | (assumption)) (by first | (exact MdL.v_row (by assumption)) | (assumption)) ?_
      refine x_sipush dX13_whoseAt_45 rfl ?_
      refine x_iload5 dX13_whoseAt_48 ?_
      refine x_iadd dX13_whoseAt_50 ?_
      refine x_iald_ dX13_whoseAt_51 (by first | (exact MdL.k_row (by assumption)) | (assumption)) (by first | (exact MdL.x_row (by assumption) (by omega) (by omega)) | (omega)) (fun r51 => ?_)
      simp (disch := omega) only [et, es] at r51 ⊢
      refine x_iload_1 dX13_whoseAt_52 ?_
      refine x_icmp_ne (tgt := 79) dX13_whoseAt_53 rfl (by omega) (by omega) (fun c53 => ?_) (fun c53 => ?_)
      · refine x_iinc4 dX13_whoseAt_79 rfl ?_
        refine x_goto (tgt := 18) dX13_whoseAt_82 rfl ?_
        refine ih2 (by omega) _ (by omega) (by omega) (fun k z0 z1 z2 => ?_)
        by_cases e : k = j
        · subst e
          first
          | (exfalso; have := hsj.mpr z2; omega)
          | omega
        · exact y2 k z0 (by omega) z2
      · refine x_aload_0 dX13_whoseAt_56 ?_
        refine x_iload_1 dX13_whoseAt_57 ?_
        refine x_aload_0 dX13_whoseAt_58 ?_
        refine x_getR dX13_whoseAt_59 fl1630_13 rfl (by first | (exact MdL.k0 (by assumption)) | (assumption)) (by first | (exact MdL.v_row (by assumption)) | (assumption)) ?_
        refine x_sipush dX13_whoseAt_62 rfl ?_
        refine x_iload5 dX13_whoseAt_65 ?_
        refine x_iadd dX13_whoseAt_67 ?_
        refine x_iald_ dX13_whoseAt_68 (by first | (exact MdL.k_row (by assumption)) | (assumption)) (by first | (exact MdL.x_row (by assumption) (by omega) (by omega)) | (omega)) (fun r68 => ?_)
        simp (disch := omega) only [et, es] at r68 ⊢
        refine x_iconst dX13_whoseAt_69 ?_
        refine x_callV3 dX13_whoseAt_70 rfl okX13_others q1972 q1974 qs87 (by first | assumption | (exact MdL.k0 (by assumption))) am_k13 rfl (C_X13_others (S := S) (sv := sv) hM0 hT hR (hI.n60 hT) hss h1 ⟨by omega, by omega⟩ ⟨by decide, by decide⟩ (x_k1 ?_))
        refine x_iload_2 dX13_whoseAt_73 ?_
        refine x_icmp_ne (tgt := 79) dX13_whoseAt_74 rfl (by omega) (by omega) (fun c74 => ?_) (fun c74 => ?_)
        · refine x_iinc4 dX13_whoseAt_79 rfl ?_
          refine x_goto (tgt := 18) dX13_whoseAt_82 rfl ?_
          refine ih2 (by omega) _ (by omega) (by omega) (fun k z0 z1 z2 => ?_)
          by_cases e : k = j
          · subst e
            first
            | (exfalso; have := hsj.mpr z2; omega)
            | omega
          · exact y2 k z0 (by omega) z2
        · refine x_iload_3 dX13_whoseAt_77 ?_
          refine x_iret dX13_whoseAt_78 rfl ?_
          exact k _ (Or.inr ⟨⟨g0, hi⟩, ⟨j, y0, hj, hsj.mp (by omega), by omega⟩, g2⟩)
theorem C_X13_manyOn {st sv : Int} (hM : MdT L h o s T) (hT : TxtI T) (hR : RwF (h (o + 38)) (tM T) S) (hI : RowI T S b q) (hss : ∀ m k, 0 ≤ m → m < tM T → 0 ≤ k → k < rN S m → (s2 (rS S m k) = st ↔ rS S m k = sv)) (h1 : rg32 st) (k : Q (.inl [aI (cntR T S sv)]) L h) : am_C G mX13_manyOn (d + 2) [aR o, aI st] L h Q := by
  have hL := hM.1
  refine x_start okX13_manyOn rfl rfl rfl rfl ?_
  refine x_aload_0 dX13_manyOn_0 ?_
  refine x_iload_1 dX13_manyOn_1 ?_
  refine x_iconst dX13_manyOn_2 ?_
  refine x_iconst dX13_manyOn_3 ?_
  refine x_callV3 dX13_manyOn_4 rfl okX13_others q1972 q1974 qs87 (by first | assumption | (exact MdL.k0 (by assumption))) am_k13 rfl (C_X13_others (S := S) (sv := sv) hM hT hR (hI.n60 hT) hss h1 ⟨by decide, by decide⟩ ⟨by decide, by decide⟩ (x_k1 ?_))
  refine x_iret dX13_manyOn_7 rfl ?_
  exact k
theorem C_X13_topOf {st sv : Int} (hM : MdT L h o s T) (hT : TxtI T) (hR : RwF (h (o + 38)) (tM T) S) (hI : RowI T S b q) (hq : q ≤ 100000) (hss : ∀ m k, 0 ≤ m → m < tM T → 0 ≤ k → k < rN S m → (s2 (rS S m k) = st ↔ rS S m k = sv)) (h1 : rg32 st) (k : (topR T S sv = -2 ∨ (0 ≤ topR T S sv ∧ topR T S sv < tM T)) → Q (.inl [aI (topX T S sv)]) L h) : am_C G mX13_topOf (d + 3) [aR o, aI st] L h Q := by
  have hL := hM.1
  have bc := othR_bd hI hT sv (-1) 1
  have ec : cntR T S sv = othR S (tM T) sv (-1) 1 := rfl
  refine x_start okX13_topOf rfl rfl rfl rfl ?_
  refine x_aload_0 dX13_topOf_0 ?_
  refine x_iload_1 dX13_topOf_1 ?_
  refine x_aload_0 dX13_topOf_2 ?_
  refine x_iload_1 dX13_topOf_3 ?_
  refine x_callV1 dX13_topOf_4 rfl okX13_manyOn q2137 q2139 qs104 (by first | assumption | (exact MdL.k0 (by assumption))) am_k13 rfl (C_X13_manyOn (sv := sv) hM hT hR hI hss h1 (x_k1 ?_))
  refine x_iconst dX13_topOf_7 ?_
  refine x_isub dX13_topOf_8 ?_
  refine x_callV2 dX13_topOf_9 rfl okX13_whoseAt q2141 q2143 qs105 (by first | assumption | (exact MdL.k0 (by assumption))) am_k13 rfl (C_X13_whoseAt (sv := sv) hM hT hR hI hq hss h1 ⟨by omega, by omega⟩ (fun r hr => (x_k1 ?_)))
  refine x_iret dX13_topOf_12 rfl ?_
  obtain ⟨e1, e2⟩ := topX_eq hI hT hr
  exact x_q1 e1 (k e2)
theorem hss_s2 (hI : RowI T S b q) (hT : TxtI T) {sv : Int} (hv : 0 ≤ sv ∧ sv < 288) : ∀ m k, 0 ≤ m → m < tM T → 0 ≤ k → k < rN S m → (s2 (rS S m k) = s2 sv ↔ rS S m k = sv) := fun m k z0 z1 z2 z3 => ⟨fun z => s2_inj (hI.st hT m k z0 z1 z2 z3) hv z, fun z => by rw [z]⟩
theorem hss_sI (hI : RowI T S b q) (hT : TxtI T) {sv : Int} (hv : 0 ≤ sv ∧ sv < 288) : ∀ m k, 0 ≤ m → m < tM T → 0 ≤ k → k < rN S m → (s2 (rS S m k) = sv ↔ rS S m k = sI sv) := fun m k z0 z1 z2 z3 => by
  obtain ⟨e1, e2⟩ := s2_sI hv
  have := hss_s2 hI hT e2 m k z0 z1 z2 z3
  rw [e1] at this
  exact this
noncomputable def streetV (T : Txt) (S : Row) (u v w i : Int) : Int := if ¬ okSt T u v w ∨ i < -1 then -1 else if i = -1 then cntR T S (stO u v w) else whoR T S (stO u v w) i
set_option maxHeartbeats 4000000 in
theorem C_X13_street {u v w i : Int} (hC : TwT L h o s T S) (hT : TxtI T) (hI : RowI T S b q) (hq : q ≤ 100000) (hu : rg32 u) (hv : rg32 v) (hw : rg32 w) (hi : rg32 i) (k : ∀ h', FrW h h' o → Q (.inl [aI (streetV T S u v w i)]) L h') : am_C G mX13_street (d + 12) [aR o, aI u, aI v, aI w, aI i] L h Q := by
  have hM := hC.1
  have hL := hM.1
  have hwd := hT.2.1
  have hdp := hT.2.2.1
  refine x_start okX13_street rfl rfl rfl rfl ?_
  refine x_aload_0 dX13_street_0 ?_
  refine x_iload_1 dX13_street_1 ?_
  refine x_iload_2 dX13_street_2 ?_
  refine x_iload_3 dX13_street_3 ?_
  refine x_callV3 dX13_street_4 rfl okX13_isStreet q2133 q2135 qs103 (by first | assumption | (exact MdL.k0 (by assumption))) am_k13 rfl (C_X13_isStreet hM hT hu hv hw (x_k1 ?_))
  refine x_if_eq (tgt := 16) dX13_street_7 rfl (by split <;> omega) (fun c7 => ?_) (fun c7 => ?_)
  · refine x_iconst dX13_street_16 ?_
    refine x_iret dX13_street_17 rfl ?_
    refine x_q1 ?_ (k h (FrW.rf h o))
    unfold streetV
    rw [if_pos (by first | exact Or.inr (by omega) | exact Or.inl (fun z => by rw [if_pos z] at c7; omega))]
  · refine x_iload4 dX13_street_10 ?_
    refine x_iconst dX13_street_12 ?_
    refine x_icmp_ge (tgt := 18) dX13_street_13 rfl (by omega) (by omega) (fun c13 => ?_) (fun c13 => ?_)
    · have hok : okSt T u v w := by
        by_cases z : okSt T u v w
        · exact z
        · rw [if_neg z] at c7
          omega
      have bst := okSt_bd hT hok
      have bs2 := s2_bd bst
      have hss := hss_s2 hI hT bst
      have hok2 := hok
      obtain ⟨hw1, hin, -⟩ := hok2
      have hok' : ¬ (¬ okSt T u v w ∨ i < -1) := fun z => by rcases z with z | z; exact z hok; omega
      refine x_aload_0 dX13_street_18 ?_
      refine x_callV0 dX13_street_19 rfl okX13_copies q1934 q1936 qs81 (by first | assumption | (exact MdL.k0 (by assumption))) am_k13 rfl (C_X13_copiesR hL hC.2 hI hT (fun h1 e1 f1 e2 e3 => (x_k0 ?_)))
      refine x_iload_1 dX13_street_22 ?_
      refine x_iload_2 dX13_street_23 ?_
      refine x_iload_3 dX13_street_24 ?_
      refine x_callS3 dX13_street_25 rfl okX13_streetOf q1994 q1995 rfl (C_X13_streetOf (x := u) (y := v) ⟨by omega, by omega⟩ ⟨by omega, by omega⟩ hw1 (x_k1 ?_))
      refine x_istore5 dX13_street_28 rfl ?_
      refine x_iload4 dX13_street_30 ?_
      refine x_iconst dX13_street_32 ?_
      refine x_icmp_ne (tgt := 45) dX13_street_33 rfl (by omega) (by omega) (fun c33 => ?_) (fun c33 => ?_)
      · refine x_aload_0 dX13_street_45 ?_
        refine x_iload5 dX13_street_46 ?_
        refine x_iload4 dX13_street_48 ?_
        refine x_callV2 dX13_street_50 rfl okX13_whoseAt q2141 q2143 qs105 (by first | assumption | (exact MdL.k0 (by assumption))) am_k13 rfl (C_X13_whoseAt (sv := stO u v w) (hM.fr f1) hT e2 hI hq hss ⟨by omega, by omega⟩ hi (fun r hr => (x_k1 ?_)))
        refine x_iret dX13_street_53 rfl ?_
        refine x_q1 ?_ (k h1 f1)
        unfold streetV
        rw [if_neg hok']
        first
        | (rw [if_pos (by omega)]; done)
        | (rw [if_neg (by omega)]; exact (whoR_eq hr).symm)
      · refine x_aload_0 dX13_street_36 ?_
        refine x_iload5 dX13_street_37 ?_
        refine x_callV1 dX13_street_39 rfl okX13_manyOn q2137 q2139 qs104 (by first | assumption | (exact MdL.k0 (by assumption))) am_k13 rfl (C_X13_manyOn (sv := stO u v w) (hM.fr f1) hT e2 hI hss ⟨by omega, by omega⟩ (x_k1 ?_))
        refine x_goto (tgt := 53) dX13_street_42 rfl ?_
        refine x_iret dX13_street_53 rfl ?_
        refine x_q1 ?_ (k h1 f1)
        unfold streetV
        rw [if_neg hok']
        first
        | (rw [if_pos (by omega)]; done)
        | (rw [if_neg (by omega)]; exact (whoR_eq hr).symm)
    · refine x_iconst dX13_street_16 ?_
      refine x_iret dX13_street_17 rfl ?_
      refine x_q1 ?_ (k h (FrW.rf h o))
      unfold streetV
      rw [if_pos (by first | exact Or.inr (by omega) | exact Or.inl (fun z => by rw [if_pos z] at c7; omega))]
set_option maxHeartbeats 8000000 in
theorem C_X0_street {u v w i : Int} (hC : CoT L h x t T S) (hT : TxtI T) (hI : RowI T S b q) (hq : q ≤ 100000) (hu : rg32 u) (hv : rg32 v) (hw : rg32 w) (hi : rg32 i) (k : Q (.inl [aI (streetV T S u v w i)]) L h) : am_C G mX0_street (d + 430) [aR x, aI u, aI v, aI w, aI i] L h Q := by
  have hK := hC.mk
  have hcl := hC.cl
  have hM := hT.1
  have hwd := hT.2.1
  have hdp := hT.2.2.1
  refine x_start okX0_street rfl rfl rfl rfl ?_
  refine x_aload_0 dX0_street_0 ?_
  refine x_iload_1 dX0_street_1 ?_
  refine x_iload_2 dX0_street_2 ?_
  refine x_iload_3 dX0_street_3 ?_
  refine x_callV3 dX0_street_4 rfl okX0_isStreet q1395 q1397 qs42 (by first | assumption | (exact MkL.k0 (by assumption))) am_k0 rfl (C_X0_isStreet hC hT hu hv hw (x_k1 ?_))
  refine x_if_eq (tgt := 16) dX0_street_7 rfl (by split <;> omega) (fun c7 => ?_) (fun c7 => ?_)
  · refine x_iconst dX0_street_16 ?_
    refine x_iret dX0_street_17 rfl ?_
    refine x_q1 ?_ k
    unfold streetV
    rw [if_pos (by first | exact Or.inr (by omega) | exact Or.inl (fun z => by rw [if_pos z] at c7; omega))]
  · refine x_iload4 dX0_street_10 ?_
    refine x_iconst dX0_street_12 ?_
    refine x_icmp_ge (tgt := 18) dX0_street_13 rfl (by omega) (by omega) (fun c13 => ?_) (fun c13 => ?_)
    · have hok : okSt T u v w := by
        by_cases z : okSt T u v w
        · exact z
        · rw [if_neg z] at c7
          omega
      have bst := okSt_bd hT hok
      have hok2 := hok
      obtain ⟨hw1, hin, -⟩ := hok2
      have eV : streetV T S u v w i = if i = -1 then cntR T S (stO u v w) else whoR T S (stO u v w) i := by
        unfold streetV
        rw [if_neg (fun z => by rcases z with z | z; exact z hok; omega)]
      refine x_iload_1 dX0_street_18 ?_
      refine x_iload_2 dX0_street_19 ?_
      refine x_iload_3 dX0_street_20 ?_
      refine x_callS3 dX0_street_21 rfl okX0_streetOf q1400 q1254 rfl (C_X0_streetOf (x := u) (y := v) ⟨by omega, by omega⟩ ⟨by omega, by omega⟩ hw (x_k1 ?_))
      refine x_istore5 dX0_street_24 rfl ?_
      refine x_iconst dX0_street_26 ?_
      refine x_istore6 dX0_street_27 rfl ?_
      refine x_iconst dX0_street_29 ?_
      refine x_istore7 dX0_street_30 rfl ?_
      generalize stO u v w = sv at bst eV ⊢
      refine x_up2 (tM T) (fun m n w8 => 0 ≤ m → m ≤ tM T → n = othR S m sv (-1) 1 → (∀ o k, 0 ≤ o → o < m → 0 ≤ k → k < rN S o → rS S o k = sv → undR T S sv (rT S o k) ≠ i) → am_X G mX0_street (d + 430) 32 [aR x, aI u, aI v, aI w, aI i, aI sv, aI n, aI m, w8] [] L h Q) (fun m n w8 ih g0 g1 g2 g3 => ?_) 0 0 aU (by omega) hM.1 rfl (fun o k z0 z1 => by omega)
      have bn0 := arS_bd (M := m) (n := rN S) (s := rS S) (t := rT S) (sv := sv) (tv := -1) (ab := 1) g0 (fun o z0 z1 => hI.n60 hT o z0 (by omega))
      unfold othR at g2
      refine x_iload7 dX0_street_32 ?_
      refine x_aload_0 dX0_street_34 ?_
      refine x_callV0 dX0_street_35 rfl okX0_men q1196 q1198 qs33 (by first | assumption | (exact MkL.k0 (by assumption))) am_k0 rfl (C_X0_men hC (x_k1 ?_))
      refine x_icmp_ge (tgt := 115) dX0_street_38 rfl (by omega) (by omega) (fun c38 => ?_) (fun c38 => ?_)
      · refine x_iload4 dX0_street_115 ?_
        refine x_iconst dX0_street_117 ?_
        refine x_icmp_ne (tgt := 126) dX0_street_118 rfl (by omega) (by omega) (fun c118 => ?_) (fun c118 => ?_)
        · refine x_iconst dX0_street_126 ?_
          refine x_iret dX0_street_127 rfl ?_
          refine x_q1 ?_ k
          rw [eV]
          have em : m = tM T := by omega
          subst em
          first
          | (rw [if_pos (by omega)]; exact g2)
          | (rw [if_neg (by omega)]; exact (whoR_eq (Or.inl ⟨rfl, g3⟩)).symm)
        · refine x_iload6 dX0_street_121 ?_
          refine x_goto (tgt := 127) dX0_street_123 rfl ?_
          refine x_iret dX0_street_127 rfl ?_
          refine x_q1 ?_ k
          rw [eV]
          have em : m = tM T := by omega
          subst em
          first
          | (rw [if_pos (by omega)]; exact g2)
          | (rw [if_neg (by omega)]; exact (whoR_eq (Or.inl ⟨rfl, g3⟩)).symm)
      · refine x_iconst dX0_street_41 ?_
        refine x_istore8 dX0_street_42 rfl ?_
        have hm : m < tM T := by omega
        have en := hC.rc.2.1 m g0 (by omega)
        have bn := hI.n60 hT m g0 (by omega)
        refine x_up1 (rN S m) (fun j n' => 0 ≤ j → j ≤ rN S m → n' = n + sumI j (arF (rS S) (rT S) sv (-1) 1 m) → (∀ k, 0 ≤ k → k < j → rS S m k = sv → undR T S sv (rT S m k) ≠ i) → am_X G mX0_street (d + 430) 44 [aR x, aI u, aI v, aI w, aI i, aI sv, aI n', aI m, aI j] [] L h Q) (fun j n' ih2 y0 y1 y2 y3 => ?_) 0 n (by omega) bn.1 (by rw [sumI_0]; omega) (fun k z0 z1 => by omega)
        refine x_iload8 dX0_street_44 ?_
        refine x_aload_0 dX0_street_46 ?_
        refine x_getR dX0_street_47 fl578_0 rfl (by first | (exact MkL.k0 (by assumption)) | (assumption)) (by first | (exact MkL.v_cloth (by assumption)) | (assumption)) ?_
        refine x_getR dX0_street_50 fl438_5 rfl (by first | (exact ClL.k0 (by assumption)) | (assumption)) (by first | (exact ClL.f2 (by assumption)) | (assumption)) ?_
        refine x_iload7 dX0_street_53 ?_
        refine x_iald_ dX0_street_55 (by first | (exact ClL.k3 (by assumption)) | (assumption)) (by first | (exact ClL.r3 (by assumption) (by omega) (by omega)) | (omega)) (fun r55 => ?_)
        simp (disch := omega) only [en] at r55 ⊢
        refine x_icmp_ge (tgt := 109) dX0_street_56 rfl (by omega) (by omega) (fun c56 => ?_) (fun c56 => ?_)
        · refine x_iinc7 dX0_street_109 rfl ?_
          refine x_goto (tgt := 32) dX0_street_112 rfl ?_
          refine ih hm _ _ (by omega) (by omega) ?_ (fun o k z0 z1 z2 z3 => ?_)
          · rw [y2, g2, show j = rN S m by omega]
            exact (sumI_s _ g0).symm
          · by_cases e : o = m
            · subst e
              exact y3 k z2 (by omega)
            · exact g3 o k z0 (by omega) z2 z3
        · have hj : j < rN S m := by omega
          have es := (hC.rc.2.2.2.1 m j g0 (by omega) y0 hj).2.1
          have bss := hI.st hT m j g0 hm y0 hj
          have bt := (hI.2.2.1 m j g0 hm y0 hj).2.1
          have bo := othR_bd hI hT (rS S m j) (rT S m j) 0
          have hund : undR T S (rS S m j) (rT S m j) = othR S (tM T) (rS S m j) (rT S m j) 0 := rfl
          refine x_aload_0 dX0_street_59 ?_
          refine x_getR dX0_street_60 fl578_0 rfl (by first | (exact MkL.k0 (by assumption)) | (assumption)) (by first | (exact MkL.v_cloth (by assumption)) | (assumption)) ?_
          refine x_getR dX0_street_63 fl445_5 rfl (by first | (exact ClL.k0 (by assumption)) | (assumption)) (by first | (exact ClL.f5 (by assumption)) | (assumption)) ?_
          refine x_iload7 dX0_street_66 ?_
          refine x_aald dX0_street_68 (by first | (exact ClL.k13 (by assumption)) | (assumption)) (by decide) (by decide) (by first | (exact ClL.r13 (by assumption) (by omega) (by omega)) | (omega)) (by first | (exact ClL.fs (by assumption) (by omega) (by omega)) | (assumption)) ?_
          refine x_iload8 dX0_street_69 ?_
          refine x_iald_ dX0_street_71 (by first | (exact ClL.ks (by assumption) (by omega) (by omega)) | (assumption)) (by first | (exact ClL.rs (by assumption) (by omega) (by omega) (by omega) (by omega)) | (omega)) (fun r71 => ?_)
          simp (disch := omega) only [es] at r71 ⊢
          refine x_iload5 dX0_street_72 ?_
          refine x_icmp_eq (tgt := 80) dX0_street_74 rfl (by omega) (by omega) (fun c74 => ?_) (fun c74 => ?_)
          · refine x_aload_0 dX0_street_80 ?_
            refine x_getR dX0_street_81 fl578_0 rfl (by first | (exact MkL.k0 (by assumption)) | (assumption)) (by first | (exact MkL.v_cloth (by assumption)) | (assumption)) ?_
            refine x_iload7 dX0_street_84 ?_
            refine x_iload8 dX0_street_86 ?_
            refine x_iconst dX0_street_88 ?_
            refine x_callV3 dX0_street_89 rfl okX5_around q1229 q1230 q1231 (by first | assumption | (exact ClL.k0 (by assumption))) am_k5 rfl (C_around hC.rc hI hT ⟨g0, hm⟩ ⟨y0, hj⟩ ⟨by decide, by decide⟩ (x_k1 ?_))
            refine x_iload4 dX0_street_92 ?_
            refine x_icmp_ne (tgt := 100) dX0_street_94 rfl (by omega) (by omega) (fun c94 => ?_) (fun c94 => ?_)
            · refine x_iinc6 dX0_street_100 rfl ?_
              refine x_iinc8 dX0_street_103 rfl ?_
              refine x_goto (tgt := 44) dX0_street_106 rfl ?_
              refine ih2 (by omega) _ (by omega) (by omega) ?_ (fun k z0 z1 z2 => ?_)
              · rw [sumI_s _ y0, y2]
                unfold arF
                first
                | (rw [if_pos ⟨by omega, by rw [if_neg (by decide)]; omega⟩]; omega)
                | (rw [if_neg (fun z => by omega)]; omega)
              · by_cases e : k = j
                · subst e
                  first
                  | (exfalso; omega)
                  | (rw [← z2]; omega)
                · exact y3 k z0 (by omega) z2
            · refine x_iload7 dX0_street_97 ?_
              refine x_iret dX0_street_99 rfl ?_
              refine x_q1 ?_ k
              rw [eV, if_neg (by omega)]
              exact (whoR_eq (Or.inr ⟨⟨g0, hm⟩, ⟨j, y0, hj, by omega, by rw [show sv = rS S m j by omega]; omega⟩, g3⟩)).symm
          · refine x_goto (tgt := 103) dX0_street_77 rfl ?_
            refine x_iinc8 dX0_street_103 rfl ?_
            refine x_goto (tgt := 44) dX0_street_106 rfl ?_
            refine ih2 (by omega) _ (by omega) (by omega) ?_ (fun k z0 z1 z2 => ?_)
            · rw [sumI_s _ y0, y2]
              unfold arF
              first
              | (rw [if_pos ⟨by omega, by rw [if_neg (by decide)]; omega⟩]; omega)
              | (rw [if_neg (fun z => by omega)]; omega)
            · by_cases e : k = j
              · subst e
                first
                | (exfalso; omega)
                | (rw [← z2]; omega)
              · exact y3 k z0 (by omega) z2
    · refine x_iconst dX0_street_16 ?_
      refine x_iret dX0_street_17 rfl ?_
      refine x_q1 ?_ k
      unfold streetV
      rw [if_pos (by first | exact Or.inr (by omega) | exact Or.inl (fun z => by rw [if_pos z] at c7; omega))]
noncomputable def showsV (T : Txt) (S : Row) (u v w : Int) : Int := if ¬ okSt T u v w then -1 else if topR T S (stO u v w) < 0 then -2 else tDye T (topR T S (stO u v w))
theorem topP_rg {sv r : Int} (h : topP T S sv r) : r = -2 ∨ (0 ≤ r ∧ r < tM T) := by
  rcases h with ⟨e, -⟩ | ⟨e1, e2, -⟩
  · exact Or.inl e
  · exact Or.inr ⟨e1, e2⟩
set_option maxHeartbeats 4000000 in
theorem C_X0_shows {u v w : Int} (hC : CoT L h x t T S) (hT : TxtI T) (hI : RowI T S b q) (hq : q ≤ 100000) (hu : rg32 u) (hv : rg32 v) (hw : rg32 w) (k : Q (.inl [aI (showsV T S u v w)]) L h) : am_C G mX0_shows (d + 430) [aR x, aI u, aI v, aI w] L h Q := by
  have hK := hC.mk
  have htx := hC.tx
  have hht := hC.ht
  have hcl := hC.cl
  have hM := hT.1
  have hwd := hT.2.1
  have hdp := hT.2.2.1
  refine x_start okX0_shows rfl rfl rfl rfl ?_
  refine x_aload_0 dX0_shows_0 ?_
  refine x_iload_1 dX0_shows_1 ?_
  refine x_iload_2 dX0_shows_2 ?_
  refine x_iload_3 dX0_shows_3 ?_
  refine x_callV3 dX0_shows_4 rfl okX0_isStreet q1395 q1397 qs42 (by first | assumption | (exact MkL.k0 (by assumption))) am_k0 rfl (C_X0_isStreet hC hT hu hv hw (x_k1 ?_))
  refine x_if_ne (tgt := 12) dX0_shows_7 rfl (by split <;> omega) (fun c7 => ?_) (fun c7 => ?_)
  · have hok : okSt T u v w := by
      by_cases z : okSt T u v w
      · exact z
      · rw [if_neg z] at c7
        omega
    have bst := okSt_bd hT hok
    have hok2 := hok
    obtain ⟨hw1, hin, -⟩ := hok2
    have eV : showsV T S u v w = if topR T S (stO u v w) < 0 then -2 else tDye T (topR T S (stO u v w)) := by
      unfold showsV
      rw [if_neg (fun z => z hok)]
    refine x_aload_0 dX0_shows_12 ?_
    refine x_getR dX0_shows_13 fl578_0 rfl (by first | (exact MkL.k0 (by assumption)) | (assumption)) (by first | (exact MkL.v_cloth (by assumption)) | (assumption)) ?_
    refine x_iload_1 dX0_shows_16 ?_
    refine x_iload_2 dX0_shows_17 ?_
    refine x_iload_3 dX0_shows_18 ?_
    refine x_callS3 dX0_shows_19 rfl okX0_streetOf q1400 q1254 rfl (C_X0_streetOf (x := u) (y := v) ⟨by omega, by omega⟩ ⟨by omega, by omega⟩ hw (x_k1 ?_))
    refine x_callV1 dX0_shows_22 rfl okX5_top q1448 q1449 q1450 (by first | assumption | (exact ClL.k0 (by assumption))) am_k5 rfl (C_X5_top (sv := stO u v w) hC.rc hI (by omega) hT ⟨by omega, by omega⟩ (fun r hr => (x_k1 ?_)))
    have er := topR_eq hI hr
    have rr := topP_rg hr
    rw [er] at eV
    refine x_istore4 dX0_shows_25 rfl ?_
    refine x_iload4 dX0_shows_27 ?_
    refine x_if_ge (tgt := 37) dX0_shows_29 rfl (by omega) (fun c29 => ?_) (fun c29 => ?_)
    · have hma := htx.man (m := r) (by omega) (by omega)
      refine x_aload_0 dX0_shows_37 ?_
      refine x_getW dX0_shows_38 fl574_0 rfl (by first | (exact MkL.k0 (by assumption)) | (assumption)) (by assumption) ?_
      refine x_getR dX0_shows_41 fl352_4 rfl (by first | (exact TxL.k0 (by assumption)) | (assumption)) (by first | (rfl) | (assumption)) ?_
      refine x_iload4 dX0_shows_44 ?_
      refine x_callV1 dX0_shows_46 rfl okJ5_get q1204 q530 q531 (by first | assumption | (exact TxL.kl (by assumption))) am_k20 rfl (C_J5_get htx.ls ⟨by omega, by omega⟩ (x_k1 ?_))
      refine x_cast dX0_shows_49 q1205 (by first | assumption | (exact ManL.k0 (by assumption))) am_k14 ?_
      refine x_getKI dX0_shows_52 fl996_14 (by first | (exact ManL.k0 (by assumption)) | (assumption)) (by first | (exact ManL.dye (by assumption)) | (assumption)) (fun r52 => ?_)
      refine x_iret dX0_shows_55 rfl ?_
      refine x_q1 ?_ k
      rw [eV, if_neg (by omega)]
    · refine x_bipush dX0_shows_32 rfl ?_
      refine x_goto (tgt := 55) dX0_shows_34 rfl ?_
      refine x_iret dX0_shows_55 rfl ?_
      refine x_q1 ?_ k
      rw [eV, if_pos (by omega)]
  · refine x_iconst dX0_shows_10 ?_
    refine x_iret dX0_shows_11 rfl ?_
    refine x_q1 ?_ k
    unfold showsV
    rw [if_pos (fun z => by rw [if_pos z] at c7; omega)]
set_option maxHeartbeats 4000000 in
theorem C_X13_shows {u v w : Int} (hC : TwT L h o s T S) (hT : TxtI T) (hI : RowI T S b q) (hq : q ≤ 100000) (hu : rg32 u) (hv : rg32 v) (hw : rg32 w) (k : ∀ h', FrW h h' o → Q (.inl [aI (showsV T S u v w)]) L h') : am_C G mX13_shows (d + 12) [aR o, aI u, aI v, aI w] L h Q := by
  have hM := hC.1
  have hL := hM.1
  have hs := hM.2.1
  have hM7 := hT.1
  have hwd := hT.2.1
  have hdp := hT.2.2.1
  refine x_start okX13_shows rfl rfl rfl rfl ?_
  refine x_aload_0 dX13_shows_0 ?_
  refine x_iload_1 dX13_shows_1 ?_
  refine x_iload_2 dX13_shows_2 ?_
  refine x_iload_3 dX13_shows_3 ?_
  refine x_callV3 dX13_shows_4 rfl okX13_isStreet q2133 q2135 qs103 (by first | assumption | (exact MdL.k0 (by assumption))) am_k13 rfl (C_X13_isStreet hM hT hu hv hw (x_k1 ?_))
  refine x_if_ne (tgt := 12) dX13_shows_7 rfl (by split <;> omega) (fun c7 => ?_) (fun c7 => ?_)
  · have hok : okSt T u v w := by
      by_cases z : okSt T u v w
      · exact z
      · rw [if_neg z] at c7
        omega
    have bst := okSt_bd hT hok
    have bs2 := s2_bd bst
    have hss := hss_s2 hI hT bst
    have hok2 := hok
    obtain ⟨hw1, hin, -⟩ := hok2
    have eV : showsV T S u v w = if topR T S (stO u v w) < 0 then -2 else tDye T (topR T S (stO u v w)) := by
      unfold showsV
      rw [if_neg (fun z => z hok)]
    refine x_aload_0 dX13_shows_12 ?_
    refine x_callV0 dX13_shows_13 rfl okX13_copies q1934 q1936 qs81 (by first | assumption | (exact MdL.k0 (by assumption))) am_k13 rfl (C_X13_copiesR hL hC.2 hI hT (fun h1 e1 f1 e2 e3 => (x_k0 ?_)))
    refine x_aload_0 dX13_shows_16 ?_
    refine x_iload_1 dX13_shows_17 ?_
    refine x_iload_2 dX13_shows_18 ?_
    refine x_iload_3 dX13_shows_19 ?_
    refine x_callS3 dX13_shows_20 rfl okX13_streetOf q1994 q1995 rfl (C_X13_streetOf (x := u) (y := v) ⟨by omega, by omega⟩ ⟨by omega, by omega⟩ hw1 (x_k1 ?_))
    refine x_callV1 dX13_shows_23 rfl okX13_topOf q2149 q2151 qs106 (by first | assumption | (exact MdL.k0 (by assumption))) am_k13 rfl (C_X13_topOf (sv := stO u v w) (hM.fr f1) hT e2 hI hq hss ⟨by omega, by omega⟩ (fun rr => (x_k1 ?_)))
    refine x_istore4 dX13_shows_26 rfl ?_
    have hM1 := hM.fr f1
    have hlv := hM1.2.2.1
    have etx : topX T S (stO u v w) = if topR T S (stO u v w) = -2 then -1 else topR T S (stO u v w) := rfl
    rcases rr with rr | rr
    · rw [if_pos rr] at etx
      rw [etx]
      refine x_iload4 dX13_shows_28 ?_
      refine x_if_ge (tgt := 38) dX13_shows_30 rfl (by omega) (fun c30 => ?_) (fun c30 => ?_)
      · exfalso; omega
      · refine x_bipush dX13_shows_33 rfl ?_
        refine x_goto (tgt := 53) dX13_shows_35 rfl ?_
        refine x_iret dX13_shows_53 rfl ?_
        refine x_q1 ?_ (k h1 f1)
        rw [eV, if_pos (by omega)]
    · rw [if_neg (by omega)] at etx
      rw [etx]
      have ed := (hM1.2.2.2.2.2.2.2.2.1 _ rr.1 rr.2).2.2.1
      refine x_iload4 dX13_shows_28 ?_
      refine x_if_ge (tgt := 38) dX13_shows_30 rfl (by omega) (fun c30 => ?_) (fun c30 => ?_)
      · refine x_aload_0 dX13_shows_38 ?_
        refine x_getR dX13_shows_39 fl1601_13 rfl (by first | (exact MdL.k0 (by assumption)) | (assumption)) (by first | (exact MdL.v_dyeOf (by assumption)) | (assumption)) ?_
        refine x_bipush dX13_shows_42 rfl ?_
        refine x_aload_0 dX13_shows_44 ?_
        refine x_getI_ dX13_shows_45 fl1592_13 (by first | (exact MdL.k0 (by assumption)) | (assumption)) (fun r45 => ?_)
        rw [hlv] at r45 ⊢
        refine x_imul dX13_shows_48 ?_
        refine x_iload4 dX13_shows_49 ?_
        refine x_iadd dX13_shows_51 ?_
        refine x_iald_ dX13_shows_52 (by first | (exact MdL.k_dyeOf (by assumption)) | (assumption)) (by first | (exact MdL.x_dyeOf (by assumption) (by omega) (by omega)) | (omega)) (fun r52 => ?_)
        rw [ed] at r52 ⊢
        refine x_iret dX13_shows_53 rfl ?_
        refine x_q1 ?_ (k h1 f1)
        rw [eV, if_neg (by omega)]
      · exfalso; omega
  · refine x_iconst dX13_shows_10 ?_
    refine x_iret dX13_shows_11 rfl ?_
    refine x_q1 ?_ (k h (FrW.rf h o))
    unfold showsV
    rw [if_pos (fun z => by rw [if_pos z] at c7; omega)]
noncomputable def shownF (T : Txt) (S : Row) (y : Int) (s : Int) : Int := if 0 ≤ topR T S s ∧ tDye T (topR T S s) = y then 1 else 0
noncomputable def shownV (T : Txt) (S : Row) (y : Int) : Int := if 0 ≤ y ∧ y ≤ 9 then sumI 288 (shownF T S y) else -1
set_option maxHeartbeats 4000000 in
theorem C_X0_shown {y : Int} (hC : CoT L h x t T S) (hT : TxtI T) (hI : RowI T S b q) (hq : q ≤ 100000) (hy : rg32 y) (k : Q (.inl [aI (shownV T S y)]) L h) : am_C G mX0_shown (d + 430) [aR x, aI y] L h Q := by
  have hK := hC.mk
  have htx := hC.tx
  have hht := hC.ht
  have hcl := hC.cl
  have hM := hT.1
  refine x_start okX0_shown rfl rfl rfl rfl ?_
  refine x_iload_1 dX0_shown_0 ?_
  refine x_iconst dX0_shown_1 ?_
  refine x_bipush dX0_shown_2 rfl ?_
  refine x_callS3 dX0_shown_4 rfl okX0_isIn q1201 q1202 rfl (C_X0_isIn hy ⟨by decide, by decide⟩ ⟨by decide, by decide⟩ (x_k1 ?_))
  refine x_if_ne (tgt := 12) dX0_shown_7 rfl (by split <;> omega) (fun c7 => ?_) (fun c7 => ?_)
  · refine x_iconst dX0_shown_12 ?_
    refine x_istore_2 dX0_shown_13 rfl ?_
    refine x_iconst dX0_shown_14 ?_
    refine x_istore_3 dX0_shown_15 rfl ?_
    have hy1 : 0 ≤ y ∧ y ≤ 9 := by split at c7 <;> first | assumption | omega
    refine x_up0 288 (fun i => 0 ≤ i → i ≤ 288 → am_X G mX0_shown (d + 430) 16 [aR x, aI y, aI (sumI i (shownF T S y)), aI i] [] L h Q) (fun i ih g0 g1 => ?_) 0 (by omega) (by omega)
    have nxt : ∀ v, i < 288 → v = sumI i (shownF T S y) + shownF T S y i → am_X G mX0_shown (d + 430) 16 [aR x, aI y, aI v, aI (i + 1)] [] L h Q := fun v z e => by
      have := ih z (by omega) (by omega)
      rw [sumI_s _ g0, ← e] at this
      exact this
    refine x_iload_3 dX0_shown_16 ?_
    refine x_sipush dX0_shown_17 rfl ?_
    refine x_icmp_ge (tgt := 76) dX0_shown_20 rfl (by omega) (by omega) (fun c20 => ?_) (fun c20 => ?_)
    · refine x_iload_2 dX0_shown_76 ?_
      refine x_iret dX0_shown_77 rfl ?_
      rw [show i = 288 by omega]
      refine x_q1 ?_ k
      unfold shownV
      rw [if_pos hy1]
    · refine x_iload_2 dX0_shown_23 ?_
      refine x_aload_0 dX0_shown_24 ?_
      refine x_getR dX0_shown_25 fl578_0 rfl (by first | (exact MkL.k0 (by assumption)) | (assumption)) (by first | (exact MkL.v_cloth (by assumption)) | (assumption)) ?_
      refine x_iload_3 dX0_shown_28 ?_
      refine x_callV1 dX0_shown_29 rfl okX5_top q1448 q1449 q1450 (by first | assumption | (exact ClL.k0 (by assumption))) am_k5 rfl (C_X5_top (sv := i) hC.rc hI (by omega) hT ⟨by omega, by omega⟩ (fun r hr => (x_k1 ?_)))
      have er := topR_eq hI hr
      have rr := topP_rg hr
      refine x_if_lt (tgt := 67) dX0_shown_32 rfl (by omega) (fun c32 => ?_) (fun c32 => ?_)
      · refine x_iconst dX0_shown_67 ?_
        refine x_iadd dX0_shown_68 ?_
        refine x_istore_2 dX0_shown_69 rfl ?_
        refine x_iinc3 dX0_shown_70 rfl ?_
        refine x_goto (tgt := 16) dX0_shown_73 rfl ?_
        refine nxt _ (by omega) ?_
        unfold shownF
        rw [er, if_neg (by omega)]
      · have hma := htx.man (m := r) (by omega) (by omega)
        have bdy := (hT.2.2.2.2.2.1 r (by omega) (by omega)).2.1
        refine x_aload_0 dX0_shown_35 ?_
        refine x_getW dX0_shown_36 fl574_0 rfl (by first | (exact MkL.k0 (by assumption)) | (assumption)) (by assumption) ?_
        refine x_getR dX0_shown_39 fl352_4 rfl (by first | (exact TxL.k0 (by assumption)) | (assumption)) (by first | (rfl) | (assumption)) ?_
        refine x_aload_0 dX0_shown_42 ?_
        refine x_getR dX0_shown_43 fl578_0 rfl (by first | (exact MkL.k0 (by assumption)) | (assumption)) (by first | (exact MkL.v_cloth (by assumption)) | (assumption)) ?_
        refine x_iload_3 dX0_shown_46 ?_
        refine x_callV1 dX0_shown_47 rfl okX5_top q1448 q1449 q1450 (by first | assumption | (exact ClL.k0 (by assumption))) am_k5 rfl (C_X5_top (sv := i) hC.rc hI (by omega) hT ⟨by omega, by omega⟩ (fun r2 hr2 => (x_k1 ?_)))
        have e2 : r2 = r := topP_one hI hr2 hr
        subst e2
        refine x_callV1 dX0_shown_50 rfl okJ5_get q1204 q530 q531 (by first | assumption | (exact TxL.kl (by assumption))) am_k20 rfl (C_J5_get htx.ls ⟨by omega, by omega⟩ (x_k1 ?_))
        refine x_cast dX0_shown_53 q1205 (by first | assumption | (exact ManL.k0 (by assumption))) am_k14 ?_
        refine x_getKI dX0_shown_56 fl996_14 (by first | (exact ManL.k0 (by assumption)) | (assumption)) (by first | (exact ManL.dye (by assumption)) | (assumption)) (fun r56 => ?_)
        refine x_iload_1 dX0_shown_59 ?_
        refine x_icmp_ne (tgt := 67) dX0_shown_60 rfl (by omega) (by omega) (fun c60 => ?_) (fun c60 => ?_)
        · refine x_iconst dX0_shown_67 ?_
          refine x_iadd dX0_shown_68 ?_
          refine x_istore_2 dX0_shown_69 rfl ?_
          refine x_iinc3 dX0_shown_70 rfl ?_
          refine x_goto (tgt := 16) dX0_shown_73 rfl ?_
          refine nxt _ (by omega) ?_
          unfold shownF
          rw [er]
          first
          | (rw [if_pos ⟨by omega, by omega⟩]; done)
          | (rw [if_neg (by omega)]; done)
        · refine x_iconst dX0_shown_63 ?_
          refine x_goto (tgt := 68) dX0_shown_64 rfl ?_
          refine x_iadd dX0_shown_68 ?_
          refine x_istore_2 dX0_shown_69 rfl ?_
          refine x_iinc3 dX0_shown_70 rfl ?_
          refine x_goto (tgt := 16) dX0_shown_73 rfl ?_
          refine nxt _ (by omega) ?_
          unfold shownF
          rw [er]
          first
          | (rw [if_pos ⟨by omega, by omega⟩]; done)
          | (rw [if_neg (by omega)]; done)
  · refine x_iconst dX0_shown_10 ?_
    refine x_iret dX0_shown_11 rfl ?_
    refine x_q1 ?_ k
    unfold shownV
    rw [if_neg (fun z => by rw [if_pos z] at c7; omega)]
set_option maxHeartbeats 4000000 in
theorem C_X13_shown {y : Int} (hC : TwT L h o s T S) (hT : TxtI T) (hI : RowI T S b q) (hq : q ≤ 100000) (hy : rg32 y) (k : ∀ h', FrW h h' o → Q (.inl [aI (shownV T S y)]) L h') : am_C G mX13_shown (d + 12) [aR o, aI y] L h Q := by
  have hM := hC.1
  have hL := hM.1
  have hs := hM.2.1
  have hM7 := hT.1
  refine x_start okX13_shown rfl rfl rfl rfl ?_
  refine x_iload_1 dX13_shown_0 ?_
  refine x_iconst dX13_shown_1 ?_
  refine x_bipush dX13_shown_2 rfl ?_
  refine x_callS3 dX13_shown_4 rfl okX13_in q1931 q1932 rfl (C_X13_in hy ⟨by decide, by decide⟩ ⟨by decide, by decide⟩ (x_k1 ?_))
  refine x_if_ne (tgt := 12) dX13_shown_7 rfl (by split <;> omega) (fun c7 => ?_) (fun c7 => ?_)
  · refine x_aload_0 dX13_shown_12 ?_
    refine x_callV0 dX13_shown_13 rfl okX13_copies q1934 q1936 qs81 (by first | assumption | (exact MdL.k0 (by assumption))) am_k13 rfl (C_X13_copiesR hL hC.2 hI hT (fun h1 e1 f1 e2 e3 => (x_k0 ?_)))
    refine x_iconst dX13_shown_16 ?_
    refine x_istore_2 dX13_shown_17 rfl ?_
    refine x_iconst dX13_shown_18 ?_
    refine x_istore_3 dX13_shown_19 rfl ?_
    have hy1 : 0 ≤ y ∧ y ≤ 9 := by split at c7 <;> first | assumption | omega
    have hM1 := hM.fr f1
    have hlv := hM1.2.2.1
    refine x_up1 288 (fun i w => 0 ≤ i → i ≤ 288 → am_X G mX13_shown (d + 12) 20 [aR o, aI y, aI (sumI i (fun s => shownF T S y (sI s))), aI i, w] [] L h1 Q) (fun i w ih g0 g1 => ?_) 0 aU (by omega) (by omega)
    have nxt : ∀ v w, i < 288 → v = sumI i (fun s => shownF T S y (sI s)) + shownF T S y (sI i) → am_X G mX13_shown (d + 12) 20 [aR o, aI y, aI v, aI (i + 1), w] [] L h1 Q := fun v w z e => by
      have := ih z w (by omega) (by omega)
      rw [sumI_s _ g0, ← e] at this
      exact this
    refine x_iload_3 dX13_shown_20 ?_
    refine x_sipush dX13_shown_21 rfl ?_
    refine x_icmp_ge (tgt := 67) dX13_shown_24 rfl (by omega) (by omega) (fun c24 => ?_) (fun c24 => ?_)
    · refine x_iload_2 dX13_shown_67 ?_
      refine x_iret dX13_shown_68 rfl ?_
      rw [show i = 288 by omega, sum_sI]
      refine x_q1 ?_ (k h1 f1)
      unfold shownV
      rw [if_pos hy1]
    · refine x_aload_0 dX13_shown_27 ?_
      refine x_iload_3 dX13_shown_28 ?_
      refine x_callV1 dX13_shown_29 rfl okX13_topOf q2149 q2151 qs106 (by first | assumption | (exact MdL.k0 (by assumption))) am_k13 rfl (C_X13_topOf (sv := sI i) hM1 hT e2 hI hq (hss_sI hI hT ⟨g0, by omega⟩) ⟨by omega, by omega⟩ (fun rr => (x_k1 ?_)))
      refine x_istore4 dX13_shown_32 rfl ?_
      have hi : i < 288 := by omega
      have etx : topX T S (sI i) = if topR T S (sI i) = -2 then -1 else topR T S (sI i) := rfl
      rcases rr with rr | rr
      · rw [if_pos rr] at etx
        rw [etx]
        refine x_iload4 dX13_shown_34 ?_
        refine x_if_lt (tgt := 61) dX13_shown_36 rfl (by omega) (fun c36 => ?_) (fun c36 => ?_)
        · refine x_iinc3 dX13_shown_61 rfl ?_
          refine x_goto (tgt := 20) dX13_shown_64 rfl ?_
          refine nxt _ _ hi ?_
          unfold shownF
          rw [rr, if_neg (by omega)]
          omega
        · exfalso; omega
      · rw [if_neg (by omega)] at etx
        rw [etx]
        have ed := (hM1.2.2.2.2.2.2.2.2.1 _ rr.1 rr.2).2.2.1
        have bdy := (hT.2.2.2.2.2.1 _ rr.1 rr.2).2.1
        refine x_iload4 dX13_shown_34 ?_
        refine x_if_lt (tgt := 61) dX13_shown_36 rfl (by omega) (fun c36 => ?_) (fun c36 => ?_)
        · refine x_iinc3 dX13_shown_61 rfl ?_
          refine x_goto (tgt := 20) dX13_shown_64 rfl ?_
          refine nxt _ _ hi ?_
          unfold shownF
          first
          | (rw [if_pos ⟨rr.1, by omega⟩]; done)
          | (rw [if_neg (by omega)]; omega)
        · refine x_aload_0 dX13_shown_39 ?_
          refine x_getR dX13_shown_40 fl1601_13 rfl (by first | (exact MdL.k0 (by assumption)) | (assumption)) (by first | (exact MdL.v_dyeOf (by assumption)) | (assumption)) ?_
          refine x_bipush dX13_shown_43 rfl ?_
          refine x_aload_0 dX13_shown_45 ?_
          refine x_getI_ dX13_shown_46 fl1592_13 (by first | (exact MdL.k0 (by assumption)) | (assumption)) (fun r46 => ?_)
          rw [hlv] at r46 ⊢
          refine x_imul dX13_shown_49 ?_
          refine x_iload4 dX13_shown_50 ?_
          refine x_iadd dX13_shown_52 ?_
          refine x_iald_ dX13_shown_53 (by first | (exact MdL.k_dyeOf (by assumption)) | (assumption)) (by first | (exact MdL.x_dyeOf (by assumption) (by omega) (by omega)) | (omega)) (fun r53 => ?_)
          rw [ed] at r53 ⊢
          refine x_iload_1 dX13_shown_54 ?_
          refine x_icmp_ne (tgt := 61) dX13_shown_55 rfl (by omega) (by omega) (fun c55 => ?_) (fun c55 => ?_)
          · refine x_iinc3 dX13_shown_61 rfl ?_
            refine x_goto (tgt := 20) dX13_shown_64 rfl ?_
            refine nxt _ _ hi ?_
            unfold shownF
            first
            | (rw [if_pos ⟨rr.1, by omega⟩]; done)
            | (rw [if_neg (by omega)]; omega)
          · refine x_iinc2 dX13_shown_58 rfl ?_
            refine x_iinc3 dX13_shown_61 rfl ?_
            refine x_goto (tgt := 20) dX13_shown_64 rfl ?_
            refine nxt _ _ hi ?_
            unfold shownF
            first
            | (rw [if_pos ⟨rr.1, by omega⟩]; done)
            | (rw [if_neg (by omega)]; omega)
  · refine x_iconst dX13_shown_10 ?_
    refine x_iret dX13_shown_11 rfl ?_
    refine x_q1 ?_ (k h (FrW.rf h o))
    unfold shownV
    rw [if_neg (fun z => by rw [if_pos z] at c7; omega)]
noncomputable def upV (T : Txt) (S : Row) (m : Int) : Int := if 0 ≤ m ∧ m < tM T then sumI 288 (fun s => if topR T S s = m then 1 else 0) else -1
set_option maxHeartbeats 4000000 in
theorem C_X0_uppermost {m : Int} (hC : CoT L h x t T S) (hT : TxtI T) (hI : RowI T S b q) (hq : q ≤ 100000) (hm : rg32 m) (k : Q (.inl [aI (upV T S m)]) L h) : am_C G mX0_uppermost (d + 430) [aR x, aI m] L h Q := by
  have hK := hC.mk
  have hcl := hC.cl
  have hM := hT.1
  refine x_start okX0_uppermost rfl rfl rfl rfl ?_
  refine x_aload_0 dX0_uppermost_0 ?_
  refine x_iload_1 dX0_uppermost_1 ?_
  refine x_callV1 dX0_uppermost_2 rfl okX0_isMan q1192 q1194 qs32 (by first | assumption | (exact MkL.k0 (by assumption))) am_k0 rfl (C_X0_isMan hC hT hm (x_k1 ?_))
  refine x_if_ne (tgt := 10) dX0_uppermost_5 rfl (by split <;> omega) (fun c5 => ?_) (fun c5 => ?_)
  · refine x_iconst dX0_uppermost_10 ?_
    refine x_istore_2 dX0_uppermost_11 rfl ?_
    refine x_iconst dX0_uppermost_12 ?_
    refine x_istore_3 dX0_uppermost_13 rfl ?_
    have hm1 : 0 ≤ m ∧ m < tM T := by split at c5 <;> first | assumption | omega
    refine x_up0 288 (fun i => 0 ≤ i → i ≤ 288 → am_X G mX0_uppermost (d + 430) 14 [aR x, aI m, aI (sumI i (fun s => if topR T S s = m then 1 else 0)), aI i] [] L h Q) (fun i ih g0 g1 => ?_) 0 (by omega) (by omega)
    have nxt : ∀ v, i < 288 → v = sumI i (fun s => if topR T S s = m then 1 else 0) + (if topR T S i = m then 1 else 0) → am_X G mX0_uppermost (d + 430) 14 [aR x, aI m, aI v, aI (i + 1)] [] L h Q := fun v z e => by
      have := ih z (by omega) (by omega)
      rw [sumI_s _ g0, ← e] at this
      exact this
    refine x_iload_3 dX0_uppermost_14 ?_
    refine x_sipush dX0_uppermost_15 rfl ?_
    refine x_icmp_ge (tgt := 47) dX0_uppermost_18 rfl (by omega) (by omega) (fun c18 => ?_) (fun c18 => ?_)
    · refine x_iload_2 dX0_uppermost_47 ?_
      refine x_iret dX0_uppermost_48 rfl ?_
      rw [show i = 288 by omega]
      refine x_q1 ?_ k
      unfold upV
      rw [if_pos hm1]
    · refine x_iload_2 dX0_uppermost_21 ?_
      refine x_aload_0 dX0_uppermost_22 ?_
      refine x_getR dX0_uppermost_23 fl578_0 rfl (by first | (exact MkL.k0 (by assumption)) | (assumption)) (by first | (exact MkL.v_cloth (by assumption)) | (assumption)) ?_
      refine x_iload_3 dX0_uppermost_26 ?_
      refine x_callV1 dX0_uppermost_27 rfl okX5_top q1448 q1449 q1450 (by first | assumption | (exact ClL.k0 (by assumption))) am_k5 rfl (C_X5_top (sv := i) hC.rc hI (by omega) hT ⟨by omega, by omega⟩ (fun r hr => (x_k1 ?_)))
      have er := topR_eq hI hr
      have rr := topP_rg hr
      refine x_iload_1 dX0_uppermost_30 ?_
      refine x_icmp_ne (tgt := 38) dX0_uppermost_31 rfl (by omega) (by omega) (fun c31 => ?_) (fun c31 => ?_)
      · refine x_iconst dX0_uppermost_38 ?_
        refine x_iadd dX0_uppermost_39 ?_
        refine x_istore_2 dX0_uppermost_40 rfl ?_
        refine x_iinc3 dX0_uppermost_41 rfl ?_
        refine x_goto (tgt := 14) dX0_uppermost_44 rfl ?_
        refine nxt _ (by omega) ?_
        rw [er]
        first
        | (rw [if_pos (by omega)]; done)
        | (rw [if_neg (by omega)]; done)
      · refine x_iconst dX0_uppermost_34 ?_
        refine x_goto (tgt := 39) dX0_uppermost_35 rfl ?_
        refine x_iadd dX0_uppermost_39 ?_
        refine x_istore_2 dX0_uppermost_40 rfl ?_
        refine x_iinc3 dX0_uppermost_41 rfl ?_
        refine x_goto (tgt := 14) dX0_uppermost_44 rfl ?_
        refine nxt _ (by omega) ?_
        rw [er]
        first
        | (rw [if_pos (by omega)]; done)
        | (rw [if_neg (by omega)]; done)
  · refine x_iconst dX0_uppermost_8 ?_
    refine x_iret dX0_uppermost_9 rfl ?_
    refine x_q1 ?_ k
    unfold upV
    rw [if_neg (fun z => by rw [if_pos z] at c5; omega)]
set_option maxHeartbeats 4000000 in
theorem C_X13_uppermost {m : Int} (hC : TwT L h o s T S) (hT : TxtI T) (hI : RowI T S b q) (hq : q ≤ 100000) (hm : rg32 m) (k : ∀ h', FrW h h' o → Q (.inl [aI (upV T S m)]) L h') : am_C G mX13_uppermost (d + 12) [aR o, aI m] L h Q := by
  have hM := hC.1
  have hL := hM.1
  have hM7 := hT.1
  refine x_start okX13_uppermost rfl rfl rfl rfl ?_
  refine x_aload_0 dX13_uppermost_0 ?_
  refine x_iload_1 dX13_uppermost_1 ?_
  refine x_callV1 dX13_uppermost_2 rfl okX13_isMan q1927 q1929 qs80 (by first | assumption | (exact MdL.k0 (by assumption))) am_k13 rfl (C_X13_isMan hM hT hm (x_k1 ?_))
  refine x_if_ne (tgt := 10) dX13_uppermost_5 rfl (by split <;> omega) (fun c5 => ?_) (fun c5 => ?_)
  · refine x_aload_0 dX13_uppermost_10 ?_
    refine x_callV0 dX13_uppermost_11 rfl okX13_copies q1934 q1936 qs81 (by first | assumption | (exact MdL.k0 (by assumption))) am_k13 rfl (C_X13_copiesR hL hC.2 hI hT (fun h1 e1 f1 e2 e3 => (x_k0 ?_)))
    refine x_iconst dX13_uppermost_14 ?_
    refine x_istore_2 dX13_uppermost_15 rfl ?_
    refine x_iconst dX13_uppermost_16 ?_
    refine x_istore_3 dX13_uppermost_17 rfl ?_
    have hm1 : 0 ≤ m ∧ m < tM T := by split at c5 <;> first | assumption | omega
    have hM1 := hM.fr f1
    refine x_up0 288 (fun i => 0 ≤ i → i ≤ 288 → am_X G mX13_uppermost (d + 12) 18 [aR o, aI m, aI (sumI i (fun s => if topR T S (sI s) = m then 1 else 0)), aI i] [] L h1 Q) (fun i ih g0 g1 => ?_) 0 (by omega) (by omega)
    have nxt : ∀ v, i < 288 → v = sumI i (fun s => if topR T S (sI s) = m then 1 else 0) + (if topR T S (sI i) = m then 1 else 0) → am_X G mX13_uppermost (d + 12) 18 [aR o, aI m, aI v, aI (i + 1)] [] L h1 Q := fun v z e => by
      have := ih z (by omega) (by omega)
      rw [sumI_s _ g0, ← e] at this
      exact this
    refine x_iload_3 dX13_uppermost_18 ?_
    refine x_sipush dX13_uppermost_19 rfl ?_
    refine x_icmp_ge (tgt := 43) dX13_uppermost_22 rfl (by omega) (by omega) (fun c22 => ?_) (fun c22 => ?_)
    · refine x_iload_2 dX13_uppermost_43 ?_
      refine x_iret dX13_uppermost_44 rfl ?_
      rw [show i = 288 by omega, sum_sI (fun s => if topR T S s = m then 1 else 0)]
      refine x_q1 ?_ (k h1 f1)
      unfold upV
      rw [if_pos hm1]
    · refine x_aload_0 dX13_uppermost_25 ?_
      refine x_iload_3 dX13_uppermost_26 ?_
      refine x_callV1 dX13_uppermost_27 rfl okX13_topOf q2149 q2151 qs106 (by first | assumption | (exact MdL.k0 (by assumption))) am_k13 rfl (C_X13_topOf (sv := sI i) hM1 hT e2 hI hq (hss_sI hI hT ⟨g0, by omega⟩) ⟨by omega, by omega⟩ (fun rr => (x_k1 ?_)))
      have etx : topX T S (sI i) = if topR T S (sI i) = -2 then -1 else topR T S (sI i) := rfl
      have etb : -1 ≤ topX T S (sI i) ∧ topX T S (sI i) < 7 := by split at etx <;> omega
      refine x_iload_1 dX13_uppermost_30 ?_
      refine x_icmp_ne (tgt := 37) dX13_uppermost_31 rfl (by omega) (by omega) (fun c31 => ?_) (fun c31 => ?_)
      · refine x_iinc3 dX13_uppermost_37 rfl ?_
        refine x_goto (tgt := 18) dX13_uppermost_40 rfl ?_
        refine nxt _ (by omega) ?_
        split at etx <;> first
        | (rw [if_pos (by omega)]; done)
        | (rw [if_neg (by omega)]; omega)
      · refine x_iinc2 dX13_uppermost_34 rfl ?_
        refine x_iinc3 dX13_uppermost_37 rfl ?_
        refine x_goto (tgt := 18) dX13_uppermost_40 rfl ?_
        refine nxt _ (by omega) ?_
        split at etx <;> first
        | (rw [if_pos (by omega)]; done)
        | (rw [if_neg (by omega)]; omega)
  · refine x_iconst dX13_uppermost_8 ?_
    refine x_iret dX13_uppermost_9 rfl ?_
    refine x_q1 ?_ (k h (FrW.rf h o))
    unfold upV
    rw [if_neg (fun z => by rw [if_pos z] at c5; omega)]
end STREET
