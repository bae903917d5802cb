/-! THE TWIN: steps, winds, minuteGoes -/
set_option maxRecDepth 100000
section MSTEP
variable {G : am_G} {d : Nat} {L : am_L} {h : am_H} {Q : am_O → am_L → am_H → Prop} {o s : Int} {T : Txt} {S : Row} {b q : Int}
theorem RowI.st (hI : RowI T S b q) (hT : TxtI T) : ∀ m k, 0 ≤ m → m < tM T → 0 ≤ k → k < rN S m → 0 ≤ rS S m k ∧ rS S m k < 288 := by
  intro m k h0 h1 h2 h3
  obtain ⟨b1, b2, b3, b4, b5⟩ := hI.2.2.1 m k h0 h1 h2 h3
  rw [posX_s h2, posY_s h2] at b5
  have := hT.2.1
  have := hT.2.2.1
  unfold inT at b4 b5
  rw [b3]
  unfold stO
  (repeat' split) <;> omega
theorem FrV.row {h h' : am_H} {o : Int} (hf : FrV h h' o) : h' (o + 38) = h (o + 38) := by funext j; exact hf _ _ ⟨by omega, by omega, fun z => by omega⟩
theorem FrR.later {h h' : am_H} {o : Int} (hf : FrR h h' o) : h' (o + 39) = h (o + 39) := by funext j; exact hf _ _ ⟨by omega, by omega, by omega, fun z => by omega⟩
set_option maxHeartbeats 8000000 in
theorem C_X13_steps {m w : Int} (hM : MdT L h o s T) (hT : TxtI T) (hm : 0 ≤ m ∧ m < tM T) (hw : 1 ≤ w ∧ w ≤ 4) (hR : RwF (h (o + 38)) (tM T) S) (hI : RowI T S b q) (hq : q ≤ 100000)
    (kt : canStep T S m w → ∀ h', RwF (h' (o + 38)) (tM T) (stepR S m w) → FrR h h' o → Q (.inl [aI 1]) L h') (kf : ¬ canStep T S m w → ∀ h', FrV h h' o → Q (.inl [aI 0]) L h') : am_C G mX13_steps (d + 5) [aR o, aI m, aI w] L h Q := by
  have hM0 := hM
  obtain ⟨hL, hs, hlv, -⟩ := hM
  have hM7 := hT.1
  have hm7 : m < 7 := by omega
  have hR0 := hR
  obtain ⟨rn, rx, rk, rm, rq⟩ := hR
  obtain ⟨hx, hy⟩ := rx m hm.1 hm.2
  obtain ⟨en, eb⟩ := rn m hm.1 hm7
  have bn := (hI.1 m hm.1 hm7).1
  have bl := lng_bd hT m
  have bx := (hI.2.1 m hm.1 hm.2).1
  have b01 := bt_01 (rL S) m
  have bdx := dX_bd w
  have bdy := dY_bd w
  have bq := hI.2.2.2.2.2.2.2
  unfold inT at bx
  have bw := hT.2.1
  have bd := hT.2.2.1
  have hwr : rg32 w := ⟨by omega, by omega⟩
  have bst := s2_bd (a := stO (rX S m) (rY S m) w)
  refine x_start okX13_steps rfl rfl rfl rfl ?_
  refine x_aload_0 dX13_steps_0 ?_
  refine x_getR dX13_steps_1 fl1630_13 rfl (by first | (exact MdL.k0 (by assumption)) | (assumption)) (by first | (exact MdL.v_row (by assumption)) | (assumption)) ?_
  refine x_iload_1 dX13_steps_4 ?_
  refine x_iald_ dX13_steps_5 (by first | (exact MdL.k_row (by assumption)) | (assumption)) (by first | (exact MdL.x_row (by assumption) (by omega) (by omega)) | (omega)) (fun r5 => ?_)
  rw [hx] at r5 ⊢
  refine x_iload_2 dX13_steps_6 ?_
  refine x_callS1 dX13_steps_7 rfl okX13_dx q1984 q1985 rfl (C_X13_dx hwr (x_k1 ?_))
  refine x_iadd dX13_steps_10 ?_
  refine x_istore_3 dX13_steps_11 rfl ?_
  refine x_aload_0 dX13_steps_12 ?_
  refine x_getR dX13_steps_13 fl1630_13 rfl (by first | (exact MdL.k0 (by assumption)) | (assumption)) (by first | (exact MdL.v_row (by assumption)) | (assumption)) ?_
  refine x_bipush dX13_steps_16 rfl ?_
  refine x_iload_1 dX13_steps_18 ?_
  refine x_iadd dX13_steps_19 ?_
  refine x_iald_ dX13_steps_20 (by first | (exact MdL.k_row (by assumption)) | (assumption)) (by first | (exact MdL.x_row (by assumption) (by omega) (by omega)) | (omega)) (fun r20 => ?_)
  rw [hy] at r20 ⊢
  refine x_iload_2 dX13_steps_21 ?_
  refine x_callS1 dX13_steps_22 rfl okX13_dy q1987 q1988 rfl (C_X13_dy hwr (x_k1 ?_))
  refine x_iadd dX13_steps_25 ?_
  refine x_istore4 dX13_steps_26 rfl ?_
  refine x_aload_0 dX13_steps_28 ?_
  refine x_getR dX13_steps_29 fl1630_13 rfl (by first | (exact MdL.k0 (by assumption)) | (assumption)) (by first | (exact MdL.v_row (by assumption)) | (assumption)) ?_
  refine x_bipush dX13_steps_32 rfl ?_
  refine x_iload_1 dX13_steps_34 ?_
  refine x_iadd dX13_steps_35 ?_
  refine x_iald_ dX13_steps_36 (by first | (exact MdL.k_row (by assumption)) | (assumption)) (by first | (exact MdL.x_row (by assumption) (by omega) (by omega)) | (omega)) (fun r36 => ?_)
  rw [eb] at r36 ⊢
  refine x_iconst dX13_steps_37 ?_
  refine x_icmp_eq (tgt := 60) dX13_steps_38 rfl (by omega) (by omega) (fun c38 => ?_) (fun c38 => ?_)
  · skip
    refine x_iconst dX13_steps_60 ?_
    refine x_zret dX13_steps_61 rfl (by omega) ?_
    refine kf ?_ _ (by first | exact FrV.rf h o | exact e1)
    unfold canStep inT
    first | omega | (split at c48 <;> omega)
  · refine x_aload_0 dX13_steps_41 ?_
    refine x_iload_3 dX13_steps_42 ?_
    refine x_iload4 dX13_steps_43 ?_
    refine x_callV2 dX13_steps_45 rfl okX13_isCorner q1990 q1992 qs89 (by first | assumption | (exact MdL.k0 (by assumption))) am_k13 rfl (C_X13_isCorner hM0 hT ⟨by omega, by omega⟩ ⟨by omega, by omega⟩ (x_k1 ?_))
    refine x_if_eq (tgt := 60) dX13_steps_48 rfl (by split <;> exact ⟨by decide, by decide⟩) (fun c48 => ?_) (fun c48 => ?_)
    · skip
      refine x_iconst dX13_steps_60 ?_
      refine x_zret dX13_steps_61 rfl (by omega) ?_
      refine kf ?_ _ (by first | exact FrV.rf h o | exact e1)
      unfold canStep inT
      first | omega | (split at c48 <;> omega)
    · refine x_aload_0 dX13_steps_51 ?_
      refine x_iload_1 dX13_steps_52 ?_
      refine x_callV1 dX13_steps_53 rfl okX13_leftOf q1938 q1940 qs82 (by first | assumption | (exact MdL.k0 (by assumption))) am_k13 rfl (C_X13_leftOf hM0 hT hm hR0 (fun h1 e1 => (x_k1 ?_)))
      refine x_iconst dX13_steps_56 ?_
      refine x_icmp_ge (tgt := 62) dX13_steps_57 rfl (by omega) (by omega) (fun c57 => ?_) (fun c57 => ?_)
      · have er : h1 (o + 38) = h (o + 38) := e1.row
        have hcan : canStep T S m w := by
          unfold canStep inT
          split at c48 <;> omega
        have hin := hcan.2.2
        unfold inT at hin
        have bso : 0 ≤ stO (rX S m) (rY S m) w ∧ stO (rX S m) (rY S m) w < 288 := by
          unfold stO
          (repeat' split) <;> omega
        refine x_bipush dX13_steps_62 rfl ?_
        refine x_iload_1 dX13_steps_64 ?_
        refine x_imul dX13_steps_65 ?_
        refine x_aload_0 dX13_steps_66 ?_
        refine x_getR dX13_steps_67 fl1630_13 rfl (by first | (exact MdL.k0 (by assumption)) | (assumption)) (by first | (exact MdL.v_row (by assumption)) | (assumption)) ?_
        refine x_bipush dX13_steps_70 rfl ?_
        refine x_iload_1 dX13_steps_72 ?_
        refine x_iadd dX13_steps_73 ?_
        refine x_iald_ dX13_steps_74 (by first | (exact MdL.k_row (by assumption)) | (assumption)) (by first | (exact MdL.x_row (by assumption) (by omega) (by omega)) | (omega)) (fun r74 => ?_)
        simp (disch := omega) only [am_st_i, am_st_s, er, hx, hy, en, rq] at r74 ⊢
        refine x_iadd dX13_steps_75 ?_
        refine x_istore5 dX13_steps_76 rfl ?_
        refine x_aload_0 dX13_steps_78 ?_
        refine x_getR dX13_steps_79 fl1630_13 rfl (by first | (exact MdL.k0 (by assumption)) | (assumption)) (by first | (exact MdL.v_row (by assumption)) | (assumption)) ?_
        refine x_bipush dX13_steps_82 rfl ?_
        refine x_iload5 dX13_steps_84 ?_
        refine x_iadd dX13_steps_86 ?_
        refine x_iload_2 dX13_steps_87 ?_
        refine x_iast_ dX13_steps_88 (by first | (exact MdL.k_row (by assumption)) | (assumption)) (by first | (exact MdL.x_row (by assumption) (by omega) (by omega)) | (omega)) (by omega) ?_
        refine x_aload_0 dX13_steps_89 ?_
        refine x_getR dX13_steps_90 fl1630_13 rfl (by first | (exact MdL.k0 (by assumption)) | (assumption)) (by first | (exact MdL.v_row (by assumption)) | (assumption)) ?_
        refine x_sipush dX13_steps_93 rfl ?_
        refine x_iload5 dX13_steps_96 ?_
        refine x_iadd dX13_steps_98 ?_
        refine x_aload_0 dX13_steps_99 ?_
        refine x_getR dX13_steps_100 fl1630_13 rfl (by first | (exact MdL.k0 (by assumption)) | (assumption)) (by first | (exact MdL.v_row (by assumption)) | (assumption)) ?_
        refine x_bipush dX13_steps_103 rfl ?_
        refine x_iald_ dX13_steps_105 (by first | (exact MdL.k_row (by assumption)) | (assumption)) (by first | (exact MdL.x_row (by assumption) (by omega) (by omega)) | (omega)) (fun r105 => ?_)
        simp (disch := omega) only [am_st_i, am_st_s, er, hx, hy, en, rq] at r105 ⊢
        refine x_iast_ dX13_steps_106 (by first | (exact MdL.k_row (by assumption)) | (assumption)) (by first | (exact MdL.x_row (by assumption) (by omega) (by omega)) | (omega)) (by omega) ?_
        refine x_aload_0 dX13_steps_107 ?_
        refine x_getR dX13_steps_108 fl1630_13 rfl (by first | (exact MdL.k0 (by assumption)) | (assumption)) (by first | (exact MdL.v_row (by assumption)) | (assumption)) ?_
        refine x_sipush dX13_steps_111 rfl ?_
        refine x_iload5 dX13_steps_114 ?_
        refine x_iadd dX13_steps_116 ?_
        refine x_aload_0 dX13_steps_117 ?_
        refine x_getR dX13_steps_118 fl1630_13 rfl (by first | (exact MdL.k0 (by assumption)) | (assumption)) (by first | (exact MdL.v_row (by assumption)) | (assumption)) ?_
        refine x_iload_1 dX13_steps_121 ?_
        refine x_iald_ dX13_steps_122 (by first | (exact MdL.k_row (by assumption)) | (assumption)) (by first | (exact MdL.x_row (by assumption) (by omega) (by omega)) | (omega)) (fun r122 => ?_)
        simp (disch := omega) only [am_st_i, am_st_s, er, hx, hy, en, rq] at r122 ⊢
        refine x_aload_0 dX13_steps_123 ?_
        refine x_getR dX13_steps_124 fl1630_13 rfl (by first | (exact MdL.k0 (by assumption)) | (assumption)) (by first | (exact MdL.v_row (by assumption)) | (assumption)) ?_
        refine x_bipush dX13_steps_127 rfl ?_
        refine x_iload_1 dX13_steps_129 ?_
        refine x_iadd dX13_steps_130 ?_
        refine x_iald_ dX13_steps_131 (by first | (exact MdL.k_row (by assumption)) | (assumption)) (by first | (exact MdL.x_row (by assumption) (by omega) (by omega)) | (omega)) (fun r131 => ?_)
        simp (disch := omega) only [am_st_i, am_st_s, er, hx, hy, en, rq] at r131 ⊢
        refine x_iload_2 dX13_steps_132 ?_
        refine x_callS3 dX13_steps_133 rfl okX13_streetOf q1994 q1995 rfl (C_X13_streetOf (x := rX S m) (y := rY S m) ⟨by omega, by omega⟩ ⟨by omega, by omega⟩ hw (x_k1 ?_))
        refine x_iast_ dX13_steps_136 (by first | (exact MdL.k_row (by assumption)) | (assumption)) (by first | (exact MdL.x_row (by assumption) (by omega) (by omega)) | (omega)) (by have := bst bso; omega) ?_
        refine x_aload_0 dX13_steps_137 ?_
        refine x_getR dX13_steps_138 fl1630_13 rfl (by first | (exact MdL.k0 (by assumption)) | (assumption)) (by first | (exact MdL.v_row (by assumption)) | (assumption)) ?_
        refine x_bipush dX13_steps_141 rfl ?_
        refine x_dup2 dX13_steps_143 rfl rfl ?_
        refine x_iald_ dX13_steps_144 (by first | (exact MdL.k_row (by assumption)) | (assumption)) (by first | (exact MdL.x_row (by assumption) (by omega) (by omega)) | (omega)) (fun r144 => ?_)
        simp (disch := omega) only [am_st_i, am_st_s, er, hx, hy, en, rq] at r144 ⊢
        refine x_iconst dX13_steps_145 ?_
        refine x_iadd dX13_steps_146 ?_
        refine x_iast_ dX13_steps_147 (by first | (exact MdL.k_row (by assumption)) | (assumption)) (by first | (exact MdL.x_row (by assumption) (by omega) (by omega)) | (omega)) (by omega) ?_
        refine x_aload_0 dX13_steps_148 ?_
        refine x_getR dX13_steps_149 fl1630_13 rfl (by first | (exact MdL.k0 (by assumption)) | (assumption)) (by first | (exact MdL.v_row (by assumption)) | (assumption)) ?_
        refine x_bipush dX13_steps_152 rfl ?_
        refine x_iload_1 dX13_steps_154 ?_
        refine x_iadd dX13_steps_155 ?_
        refine x_dup2 dX13_steps_156 rfl rfl ?_
        refine x_iald_ dX13_steps_157 (by first | (exact MdL.k_row (by assumption)) | (assumption)) (by first | (exact MdL.x_row (by assumption) (by omega) (by omega)) | (omega)) (fun r157 => ?_)
        simp (disch := omega) only [am_st_i, am_st_s, er, hx, hy, en, rq] at r157 ⊢
        refine x_iconst dX13_steps_158 ?_
        refine x_iadd dX13_steps_159 ?_
        refine x_iast_ dX13_steps_160 (by first | (exact MdL.k_row (by assumption)) | (assumption)) (by first | (exact MdL.x_row (by assumption) (by omega) (by omega)) | (omega)) (by omega) ?_
        refine x_aload_0 dX13_steps_161 ?_
        refine x_getR dX13_steps_162 fl1630_13 rfl (by first | (exact MdL.k0 (by assumption)) | (assumption)) (by first | (exact MdL.v_row (by assumption)) | (assumption)) ?_
        refine x_iload_1 dX13_steps_165 ?_
        refine x_iload_3 dX13_steps_166 ?_
        refine x_iast_ dX13_steps_167 (by first | (exact MdL.k_row (by assumption)) | (assumption)) (by first | (exact MdL.x_row (by assumption) (by omega) (by omega)) | (omega)) (by omega) ?_
        refine x_aload_0 dX13_steps_168 ?_
        refine x_getR dX13_steps_169 fl1630_13 rfl (by first | (exact MdL.k0 (by assumption)) | (assumption)) (by first | (exact MdL.v_row (by assumption)) | (assumption)) ?_
        refine x_bipush dX13_steps_172 rfl ?_
        refine x_iload_1 dX13_steps_174 ?_
        refine x_iadd dX13_steps_175 ?_
        refine x_iload4 dX13_steps_176 ?_
        refine x_iast_ dX13_steps_178 (by first | (exact MdL.k_row (by assumption)) | (assumption)) (by first | (exact MdL.x_row (by assumption) (by omega) (by omega)) | (omega)) (by omega) ?_
        refine x_iconst dX13_steps_179 ?_
        refine x_zret dX13_steps_180 rfl (by omega) ?_
        refine kt hcan _ ⟨fun o' z0 z1 => ?_, fun o' z0 z1 => ?_, fun o' j z0 z1 z2 z3 => ?_, ?_, ?_⟩ ?_
        · obtain ⟨a1, a2⟩ := rn o' z0 z1
          show _ = up1 (rN S) m (rN S m + 1) o' ∧ _ = bt (rL S) o'
          simp (disch := omega) only [am_st_at, true_and, er]
          unfold up1
          constructor <;> (repeat' split) <;> omega
        · obtain ⟨a1, a2⟩ := rx o' z0 z1
          show _ = up1 (rX S) m (rX S m + dX w) o' ∧ _ = up1 (rY S) m (rY S m + dY w) o'
          simp (disch := omega) only [am_st_at, true_and, er]
          unfold up1
          constructor <;> (repeat' split) <;> omega
        · have z3' : j < up1 (rN S) m (rN S m + 1) o' := z3
          unfold up1 at z3'
          show _ = up2 (rW S) m (rN S m) w o' j ∧ _ = up2 (rT S) m (rN S m) (rQ S) o' j ∧ _ = s2 (up2 (rS S) m (rN S m) (stO (rX S m) (rY S m) w) o' j)
          unfold up2
          have bn' := (hI.1 o' z0 z1).1
          have bl' := lng_bd hT o'
          by_cases e : o' = m ∧ j = rN S m
          · obtain ⟨rfl, rfl⟩ := e
            simp (disch := omega) only [am_st_i, am_st_s]
            simp
          · have z4 : j < rN S o' := by
              by_cases ho : o' = m
              · subst ho
                rw [if_pos rfl] at z3'
                omega
              · rw [if_neg ho] at z3'
                exact z3'
            rw [if_neg e, if_neg e, if_neg e]
            have hne : 60 * o' + j ≠ 60 * m + rN S m := by
              intro z
              apply e
              omega
            simp (disch := omega) only [am_st_i, er]
            exact rk o' j z0 z1 z2 z4
        · simp (disch := omega) only [am_st_i, er]
          exact rm
        · simp (disch := omega) only [am_st_i, am_st_s]
          rfl
        · intro a i z
          simp (disch := omega) only [am_st_o]
          exact e1 a i ⟨z.1, z.2.1, z.2.2.2⟩
      · skip
        refine x_iconst dX13_steps_60 ?_
        refine x_zret dX13_steps_61 rfl (by omega) ?_
        refine kf ?_ _ (by first | exact FrV.rf h o | exact e1)
        unfold canStep inT
        first | omega | (split at c48 <;> omega)
set_option maxHeartbeats 4000000 in
theorem C_X13_winds {m : Int} (hM : MdT L h o s T) (hT : TxtI T) (hm : 0 ≤ m ∧ m < tM T) (hR : RwF (h (o + 38)) (tM T) S) (hI : RowI T S b q) (hq : q ≤ 100000)
    (kt : canWind T S m → ∀ h', RwF (h' (o + 38)) (tM T) (windR S m) → (∀ a, a ≠ (o + 38) → h' a = h a) → Q (.inl [aI 1]) L h') (kf : ¬ canWind T S m → Q (.inl [aI 0]) L h) : am_C G mX13_winds (d + 2) [aR o, aI m] L h Q := by
  have hM0 := hM
  obtain ⟨hL, hs, hlv, -⟩ := hM
  have hM7 := hT.1
  have hm7 : m < 7 := by omega
  have hR0 := hR
  obtain ⟨rn, rx, rk, rm, rq⟩ := hR
  obtain ⟨hx, hy⟩ := rx m hm.1 hm.2
  obtain ⟨en, eb⟩ := rn m hm.1 hm7
  have bn := (hI.1 m hm.1 hm7).1
  have bl := lng_bd hT m
  have bx := (hI.2.1 m hm.1 hm.2).1
  have b01 := bt_01 (rL S) m
  have bq := hI.2.2.2.2.2.2.2
  unfold inT at bx
  have bw := hT.2.1
  have bd := hT.2.2.1
  have hnb : ∀ m, 0 ≤ m → m < 7 → 0 ≤ rN S m ∧ rN S m ≤ 60 := fun m z0 z1 => by
    have := (hI.1 m z0 z1).1
    have := lng_bd hT m
    omega
  refine x_start okX13_winds rfl rfl rfl rfl ?_
  refine x_aload_0 dX13_winds_0 ?_
  refine x_getR dX13_winds_1 fl1630_13 rfl (by first | (exact MdL.k0 (by assumption)) | (assumption)) (by first | (exact MdL.v_row (by assumption)) | (assumption)) ?_
  refine x_bipush dX13_winds_4 rfl ?_
  refine x_iload_1 dX13_winds_6 ?_
  refine x_iadd dX13_winds_7 ?_
  refine x_iald_ dX13_winds_8 (by first | (exact MdL.k_row (by assumption)) | (assumption)) (by first | (exact MdL.x_row (by assumption) (by omega) (by omega)) | (omega)) (fun r8 => ?_)
  simp (disch := omega) only [eb, en] at r8 ⊢
  refine x_iconst dX13_winds_9 ?_
  refine x_icmp_eq (tgt := 25) dX13_winds_10 rfl (by omega) (by omega) (fun c10 => ?_) (fun c10 => ?_)
  · skip
    refine x_iconst dX13_winds_25 ?_
    refine x_zret dX13_winds_26 rfl (by omega) ?_
    refine kf ?_
    unfold canWind
    omega
  · refine x_aload_0 dX13_winds_13 ?_
    refine x_getR dX13_winds_14 fl1630_13 rfl (by first | (exact MdL.k0 (by assumption)) | (assumption)) (by first | (exact MdL.v_row (by assumption)) | (assumption)) ?_
    refine x_bipush dX13_winds_17 rfl ?_
    refine x_iload_1 dX13_winds_19 ?_
    refine x_iadd dX13_winds_20 ?_
    refine x_iald_ dX13_winds_21 (by first | (exact MdL.k_row (by assumption)) | (assumption)) (by first | (exact MdL.x_row (by assumption) (by omega) (by omega)) | (omega)) (fun r21 => ?_)
    simp (disch := omega) only [eb, en] at r21 ⊢
    refine x_if_ne (tgt := 27) dX13_winds_22 rfl (by omega) (fun c22 => ?_) (fun c22 => ?_)
    · have hn0 : 0 ≤ rN S m - 1 ∧ rN S m - 1 < rN S m := by omega
      obtain ⟨ew, et, es⟩ := rk m (rN S m - 1) hm.1 hm7 hn0.1 hn0.2
      have hp := hI.2.2.1 m (rN S m - 1) hm.1 hm.2 hn0.1 hn0.2
      rw [show 60 * m + (rN S m - 1) = 60 * m + rN S m - 1 by omega] at ew et es
      have bs : 0 ≤ rS S m (rN S m - 1) ∧ rS S m (rN S m - 1) < 288 := hI.st hT m (rN S m - 1) hm.1 hm.2 hn0.1 hn0.2
      have bs2 := s2_bd bs
      have bdx := dX_bd (rW S m (rN S m - 1))
      have bdy := dY_bd (rW S m (rN S m - 1))
      have hwr : rg32 (rW S m (rN S m - 1)) := ⟨by omega, by omega⟩
      have hot := arS_bd (M := tM T) (n := rN S) (s := rS S) (t := rT S) (sv := rS S m (rN S m - 1)) (tv := rT S m (rN S m - 1)) (ab := 1) hM7.1 (fun m z0 z1 => hnb m z0 (by omega))
      refine x_bipush dX13_winds_27 rfl ?_
      refine x_iload_1 dX13_winds_29 ?_
      refine x_imul dX13_winds_30 ?_
      refine x_aload_0 dX13_winds_31 ?_
      refine x_getR dX13_winds_32 fl1630_13 rfl (by first | (exact MdL.k0 (by assumption)) | (assumption)) (by first | (exact MdL.v_row (by assumption)) | (assumption)) ?_
      refine x_bipush dX13_winds_35 rfl ?_
      refine x_iload_1 dX13_winds_37 ?_
      refine x_iadd dX13_winds_38 ?_
      refine x_iald_ dX13_winds_39 (by first | (exact MdL.k_row (by assumption)) | (assumption)) (by first | (exact MdL.x_row (by assumption) (by omega) (by omega)) | (omega)) (fun r39 => ?_)
      simp (disch := omega) only [am_st_i, am_st_s, en, ew, et, es, hx, hy] at r39 ⊢
      refine x_iadd dX13_winds_40 ?_
      refine x_iconst dX13_winds_41 ?_
      refine x_isub dX13_winds_42 ?_
      refine x_istore_2 dX13_winds_43 rfl ?_
      refine x_aload_0 dX13_winds_44 ?_
      refine x_aload_0 dX13_winds_45 ?_
      refine x_getR dX13_winds_46 fl1630_13 rfl (by first | (exact MdL.k0 (by assumption)) | (assumption)) (by first | (exact MdL.v_row (by assumption)) | (assumption)) ?_
      refine x_sipush dX13_winds_49 rfl ?_
      refine x_iload_2 dX13_winds_52 ?_
      refine x_iadd dX13_winds_53 ?_
      refine x_iald_ dX13_winds_54 (by first | (exact MdL.k_row (by assumption)) | (assumption)) (by first | (exact MdL.x_row (by assumption) (by omega) (by omega)) | (omega)) (fun r54 => ?_)
      simp (disch := omega) only [am_st_i, am_st_s, en, ew, et, es, hx, hy] at r54 ⊢
      refine x_aload_0 dX13_winds_55 ?_
      refine x_getR dX13_winds_56 fl1630_13 rfl (by first | (exact MdL.k0 (by assumption)) | (assumption)) (by first | (exact MdL.v_row (by assumption)) | (assumption)) ?_
      refine x_sipush dX13_winds_59 rfl ?_
      refine x_iload_2 dX13_winds_62 ?_
      refine x_iadd dX13_winds_63 ?_
      refine x_iald_ dX13_winds_64 (by first | (exact MdL.k_row (by assumption)) | (assumption)) (by first | (exact MdL.x_row (by assumption) (by omega) (by omega)) | (omega)) (fun r64 => ?_)
      simp (disch := omega) only [am_st_i, am_st_s, en, ew, et, es, hx, hy] at r64 ⊢
      refine x_iconst dX13_winds_65 ?_
      refine x_callV3 dX13_winds_66 rfl okX13_others q1972 q1974 qs87 (by first | assumption | (exact MdL.k0 (by assumption))) am_k13 rfl (C_X13_others (S := S) hM0 hT hR0 hnb (fun m' k' z0 z1 z2 z3 => ⟨fun z => s2_inj (hI.st hT m' k' z0 z1 z2 z3) bs z, fun z => by rw [z]⟩) ⟨by omega, by omega⟩ ⟨by omega, by omega⟩ ⟨by decide, by decide⟩ (x_k1 ?_))
      unfold othR
      refine x_if_le (tgt := 74) dX13_winds_69 rfl (by omega) (fun c69 => ?_) (fun c69 => ?_)
      · refine x_aload_0 dX13_winds_74 ?_
        refine x_getR dX13_winds_75 fl1630_13 rfl (by first | (exact MdL.k0 (by assumption)) | (assumption)) (by first | (exact MdL.v_row (by assumption)) | (assumption)) ?_
        refine x_bipush dX13_winds_78 rfl ?_
        refine x_iload_1 dX13_winds_80 ?_
        refine x_iadd dX13_winds_81 ?_
        refine x_dup2 dX13_winds_82 rfl rfl ?_
        refine x_iald_ dX13_winds_83 (by first | (exact MdL.k_row (by assumption)) | (assumption)) (by first | (exact MdL.x_row (by assumption) (by omega) (by omega)) | (omega)) (fun r83 => ?_)
        simp (disch := omega) only [am_st_i, am_st_s, en, ew, et, es, hx, hy] at r83 ⊢
        refine x_iconst dX13_winds_84 ?_
        refine x_isub dX13_winds_85 ?_
        refine x_iast_ dX13_winds_86 (by first | (exact MdL.k_row (by assumption)) | (assumption)) (by first | (exact MdL.x_row (by assumption) (by omega) (by omega)) | (omega)) (by omega) ?_
        refine x_aload_0 dX13_winds_87 ?_
        refine x_getR dX13_winds_88 fl1630_13 rfl (by first | (exact MdL.k0 (by assumption)) | (assumption)) (by first | (exact MdL.v_row (by assumption)) | (assumption)) ?_
        refine x_iload_1 dX13_winds_91 ?_
        refine x_dup2 dX13_winds_92 rfl rfl ?_
        refine x_iald_ dX13_winds_93 (by first | (exact MdL.k_row (by assumption)) | (assumption)) (by first | (exact MdL.x_row (by assumption) (by omega) (by omega)) | (omega)) (fun r93 => ?_)
        simp (disch := omega) only [am_st_i, am_st_s, en, ew, et, es, hx, hy] at r93 ⊢
        refine x_aload_0 dX13_winds_94 ?_
        refine x_getR dX13_winds_95 fl1630_13 rfl (by first | (exact MdL.k0 (by assumption)) | (assumption)) (by first | (exact MdL.v_row (by assumption)) | (assumption)) ?_
        refine x_bipush dX13_winds_98 rfl ?_
        refine x_iload_2 dX13_winds_100 ?_
        refine x_iadd dX13_winds_101 ?_
        refine x_iald_ dX13_winds_102 (by first | (exact MdL.k_row (by assumption)) | (assumption)) (by first | (exact MdL.x_row (by assumption) (by omega) (by omega)) | (omega)) (fun r102 => ?_)
        simp (disch := omega) only [am_st_i, am_st_s, en, ew, et, es, hx, hy] at r102 ⊢
        refine x_callS1 dX13_winds_103 rfl okX13_dx q1984 q1985 rfl (C_X13_dx hwr (x_k1 ?_))
        refine x_isub dX13_winds_106 ?_
        refine x_iast_ dX13_winds_107 (by first | (exact MdL.k_row (by assumption)) | (assumption)) (by first | (exact MdL.x_row (by assumption) (by omega) (by omega)) | (omega)) (by omega) ?_
        refine x_aload_0 dX13_winds_108 ?_
        refine x_getR dX13_winds_109 fl1630_13 rfl (by first | (exact MdL.k0 (by assumption)) | (assumption)) (by first | (exact MdL.v_row (by assumption)) | (assumption)) ?_
        refine x_bipush dX13_winds_112 rfl ?_
        refine x_iload_1 dX13_winds_114 ?_
        refine x_iadd dX13_winds_115 ?_
        refine x_dup2 dX13_winds_116 rfl rfl ?_
        refine x_iald_ dX13_winds_117 (by first | (exact MdL.k_row (by assumption)) | (assumption)) (by first | (exact MdL.x_row (by assumption) (by omega) (by omega)) | (omega)) (fun r117 => ?_)
        simp (disch := omega) only [am_st_i, am_st_s, en, ew, et, es, hx, hy] at r117 ⊢
        refine x_aload_0 dX13_winds_118 ?_
        refine x_getR dX13_winds_119 fl1630_13 rfl (by first | (exact MdL.k0 (by assumption)) | (assumption)) (by first | (exact MdL.v_row (by assumption)) | (assumption)) ?_
        refine x_bipush dX13_winds_122 rfl ?_
        refine x_iload_2 dX13_winds_124 ?_
        refine x_iadd dX13_winds_125 ?_
        refine x_iald_ dX13_winds_126 (by first | (exact MdL.k_row (by assumption)) | (assumption)) (by first | (exact MdL.x_row (by assumption) (by omega) (by omega)) | (omega)) (fun r126 => ?_)
        simp (disch := omega) only [am_st_i, am_st_s, en, ew, et, es, hx, hy] at r126 ⊢
        refine x_callS1 dX13_winds_127 rfl okX13_dy q1987 q1988 rfl (C_X13_dy hwr (x_k1 ?_))
        refine x_isub dX13_winds_130 ?_
        refine x_iast_ dX13_winds_131 (by first | (exact MdL.k_row (by assumption)) | (assumption)) (by first | (exact MdL.x_row (by assumption) (by omega) (by omega)) | (omega)) (by omega) ?_
        refine x_iconst dX13_winds_132 ?_
        refine x_zret dX13_winds_133 rfl (by omega) ?_
        refine kt ?_ _ ⟨fun o' z0 z1 => ?_, fun o' z0 z1 => ?_, fun o' j z0 z1 z2 z3 => ?_, ?_, ?_⟩ ?_
        · unfold canWind othR
          omega
        · obtain ⟨a1, a2⟩ := rn o' z0 z1
          show _ = up1 (rN S) m (rN S m - 1) o' ∧ _ = bt (rL S) o'
          simp (disch := omega) only [am_st_at, true_and]
          unfold up1
          constructor <;> (repeat' split) <;> omega
        · obtain ⟨a1, a2⟩ := rx o' z0 z1
          show _ = up1 (rX S) m (rX S m - dX (rW S m (rN S m - 1))) o' ∧ _ = up1 (rY S) m (rY S m - dY (rW S m (rN S m - 1))) o'
          simp (disch := omega) only [am_st_at, true_and]
          unfold up1
          constructor <;> (repeat' split) <;> omega
        · have z3' : j < up1 (rN S) m (rN S m - 1) o' := z3
          unfold up1 at z3'
          simp (disch := omega) only [am_st_i]
          refine rk o' j z0 z1 z2 ?_
          split at z3'
          · rename_i e
            subst e
            omega
          · exact z3'
        · simp (disch := omega) only [am_st_i]
          exact rm
        · simp (disch := omega) only [am_st_i]
          exact rq
        · intro a z
          simp (disch := omega) only [am_st_o]
      · refine x_iconst dX13_winds_72 ?_
        refine x_zret dX13_winds_73 rfl (by omega) ?_
        refine kf ?_
        unfold canWind othR
        omega
    · skip
      refine x_iconst dX13_winds_25 ?_
      refine x_zret dX13_winds_26 rfl (by omega) ?_
      refine kf ?_
      unfold canWind
      omega
/-- the first n men go, man o by lt o minutes later -/
noncomputable def goL (T : Txt) (S : Row) (lt : Int → Int) : Nat → Row
  | 0 => S
  | n + 1 => by
    classical exact if rM S < lt n then goL T S lt n else goR T (goL T S lt n) n (lt n)
theorem goL_M (lt : Int → Int) (n : Nat) : rM (goL T S lt n) = rM S := by
  induction n with
  | zero => rfl
  | succ n ih =>
    unfold goL
    split
    · exact ih
    · exact (goR_M _).trans ih
theorem goL_0 (hM : 0 ≤ rM S) (n : Nat) : goL T S (fun _ => 0) n = goN T S 0 n := by
  induction n with
  | zero => rfl
  | succ n ih =>
    unfold goL goN
    rw [if_neg (by omega), ih]
theorem RowI.goLl (hI : RowI T S b q) (hT : TxtI T) (lt : Int → Int) (n : Nat) (hn : (n : Int) ≤ tM T) : RowI T (goL T S lt n) b (q + n) := by
  induction n with
  | zero => exact hI.mono (by omega) (by omega)
  | succ n ih =>
    have := ih (by omega)
    unfold goL
    split
    · exact this.mono (by omega) (by omega)
    · exact (this.go hT ⟨by omega, by omega⟩ _).mono (by omega) (by omega)
theorem goR_lost {m off : Int} (h : bt (rL S) m = 1) : goR T S m off = S := by
  have e : doesR T S m off = 0 := by
    unfold doesR
    split
    · rfl
    · exact if_pos h
  unfold goR
  rw [e, if_neg (by decide), if_neg (by decide)]
set_option maxHeartbeats 4000000 in
theorem C_X13_minuteGoes {lt : Int → Int} (hM : MdT L h o s T) (hT : TxtI T) (hR : RwF (h (o + 38)) (tM T) S) (hI : RowI T S b q) (hb : b ≤ 90000 ∧ q ≤ 90000) (hlt : ∀ m, 0 ≤ m → m < tM T → h (o + 39) m = lt m) (hl : ∀ m, 0 ≤ lt m ∧ lt m ≤ 100)
    (k : ∀ h', RwF (h' (o + 38)) (tM T) (tickR (goL T S lt (tM T).toNat)) → FrR h h' o → Q (.inl []) L h') : am_C G mX13_minuteGoes (d + 6) [aR o] L h Q := by
  have hL := hM.1
  have hM7 := hT.1
  have bm := hI.2.2.2.2.2.2.1
  have hs := hM.2.1
  refine x_start okX13_minuteGoes rfl rfl rfl rfl ?_
  refine x_iconst dX13_minuteGoes_0 ?_
  refine x_istore_1 dX13_minuteGoes_1 rfl ?_
  skip
  refine x_forA (tM T) (fun i hh (w : AV) => RwF (hh (o + 38)) (tM T) (goL T S lt i.toNat) ∧ FrR h hh o) (fun i hh w => am_X G mX13_minuteGoes (d + 6) 2 [aR o, aI i, w] [] L hh Q) (fun i hh w g0 g1 hP ih => ?_) h aU hM7.1 ⟨hR, FrR.rf h o⟩
  obtain ⟨p1, p2⟩ := hP
  have hM1 : MdT L hh o s T := hM.fr p2.w
  have hlv := hM1.2.2.1
  have hmen := hM1.2.2.2.1
  have hI1 := hI.goLl hT lt i.toNat (by omega)
  have eM := goL_M (T := T) (S := S) lt i.toNat
  have p1' := p1
  obtain ⟨rn, rx, rk, rm, rq⟩ := p1
  rw [eM] at rm
  refine x_iload_1 dX13_minuteGoes_2 ?_
  refine x_aload_0 dX13_minuteGoes_3 ?_
  refine x_getR dX13_minuteGoes_4 fl1598_13 rfl (by first | (exact MdL.k0 (by assumption)) | (assumption)) (by first | (exact MdL.v_men (by assumption)) | (assumption)) ?_
  refine x_aload_0 dX13_minuteGoes_7 ?_
  refine x_getI_ dX13_minuteGoes_8 fl1592_13 (by first | (exact MdL.k0 (by assumption)) | (assumption)) (fun r8 => ?_)
  rw [hlv] at r8 ⊢
  refine x_iald_ dX13_minuteGoes_11 (by first | (exact MdL.k_men (by assumption)) | (assumption)) (by first | (exact MdL.x_men (by assumption) (by omega) (by omega)) | (omega)) (fun r11 => ?_)
  rw [hmen] at r11 ⊢
  refine x_icmp_ge (tgt := 86) dX13_minuteGoes_12 rfl (by omega) (by omega) (fun c12 => ?_) (fun c12 => ?_)
  · have hi : i = tM T := by omega
    subst hi
    refine x_aload_0 dX13_minuteGoes_86 ?_
    refine x_getR dX13_minuteGoes_87 fl1630_13 rfl (by first | (exact MdL.k0 (by assumption)) | (assumption)) (by first | (exact MdL.v_row (by assumption)) | (assumption)) ?_
    refine x_bipush dX13_minuteGoes_90 rfl ?_
    refine x_dup2 dX13_minuteGoes_92 rfl rfl ?_
    refine x_iald_ dX13_minuteGoes_93 (by first | (exact MdL.k_row (by assumption)) | (assumption)) (by first | (exact MdL.x_row (by assumption) (by omega) (by omega)) | (omega)) (fun r93 => ?_)
    simp (disch := omega) only [rm] at r93 ⊢
    refine x_iconst dX13_minuteGoes_94 ?_
    refine x_iadd dX13_minuteGoes_95 ?_
    refine x_iast_ dX13_minuteGoes_96 (by first | (exact MdL.k_row (by assumption)) | (assumption)) (by first | (exact MdL.x_row (by assumption) (by omega) (by omega)) | (omega)) (by omega) ?_
    refine x_ret dX13_minuteGoes_97 rfl ?_
    refine k _ ⟨fun m z0 z1 => ?_, fun m z0 z1 => ?_, fun m j z0 z1 z2 z3 => ?_, ?_, ?_⟩ (fun a i z => by rw [am_st_o (by omega)]; exact p2 a i z)
    · simp (disch := omega) only [am_st_i]
      exact rn m z0 z1
    · simp (disch := omega) only [am_st_i]
      exact rx m z0 z1
    · have zz : j < rN (goL T S lt (tM T).toNat) m := z3
      have zb := (hI1.1 m z0 z1).1
      have zl := lng_bd hT m
      simp (disch := omega) only [am_st_i]
      exact rk m j z0 z1 z2 zz
    · rw [am_st_s]
      show _ = rM (goL T S lt (tM T).toNat) + 1
      rw [eM]
    · simp (disch := omega) only [am_st_i]
      exact rq
  · have hi : i < tM T := by omega
    obtain ⟨en, eb⟩ := rn i g0 (by omega)
    have b01 := bt_01 (rL (goL T S lt i.toNat)) i
    have el : hh (o + 39) i = lt i := by rw [p2.later]; exact hlt i g0 hi
    have bl := hl i
    have hlo : lt i ≤ rM S → goL T S lt (i + 1).toNat = goR T (goL T S lt i.toNat) i (lt i) := fun z => by
      rw [show (i + 1).toNat = i.toNat + 1 by omega]
      show (if rM S < lt (i.toNat : Nat) then _ else goR T (goL T S lt i.toNat) (i.toNat : Nat) (lt (i.toNat : Nat))) = _
      rw [show ((i.toNat : Nat) : Int) = i by omega, if_neg (by omega)]
    have hls : rM S < lt i → goL T S lt (i + 1).toNat = goL T S lt i.toNat := fun z => by
      rw [show (i + 1).toNat = i.toNat + 1 by omega]
      show (if rM S < lt (i.toNat : Nat) then _ else goR T (goL T S lt i.toNat) (i.toNat : Nat) (lt (i.toNat : Nat))) = _
      rw [show ((i.toNat : Nat) : Int) = i by omega, if_pos z]
    refine x_aload_0 dX13_minuteGoes_15 ?_
    refine x_getR dX13_minuteGoes_16 fl1630_13 rfl (by first | (exact MdL.k0 (by assumption)) | (assumption)) (by first | (exact MdL.v_row (by assumption)) | (assumption)) ?_
    refine x_bipush dX13_minuteGoes_19 rfl ?_
    refine x_iload_1 dX13_minuteGoes_21 ?_
    refine x_iadd dX13_minuteGoes_22 ?_
    refine x_iald_ dX13_minuteGoes_23 (by first | (exact MdL.k_row (by assumption)) | (assumption)) (by first | (exact MdL.x_row (by assumption) (by omega) (by omega)) | (omega)) (fun r23 => ?_)
    simp (disch := omega) only [eb, rm] at r23 ⊢
    refine x_iconst dX13_minuteGoes_24 ?_
    refine x_icmp_eq (tgt := 80) dX13_minuteGoes_25 rfl (by omega) (by omega) (fun c25 => ?_) (fun c25 => ?_)
    · refine x_iinc1 dX13_minuteGoes_80 rfl ?_
      refine x_goto (tgt := 2) dX13_minuteGoes_83 rfl ?_
      refine ih _ _ hi ⟨?_, p2⟩
      by_cases z : lt i ≤ rM S
      · rw [hlo z]
        first | (rw [goR_lost (by omega)]; exact p1') | (exfalso; omega)
      · rw [hls (by omega)]
        exact p1'
    · refine x_aload_0 dX13_minuteGoes_28 ?_
      refine x_getR dX13_minuteGoes_29 fl1630_13 rfl (by first | (exact MdL.k0 (by assumption)) | (assumption)) (by first | (exact MdL.v_row (by assumption)) | (assumption)) ?_
      refine x_bipush dX13_minuteGoes_32 rfl ?_
      refine x_iald_ dX13_minuteGoes_34 (by first | (exact MdL.k_row (by assumption)) | (assumption)) (by first | (exact MdL.x_row (by assumption) (by omega) (by omega)) | (omega)) (fun r34 => ?_)
      simp (disch := omega) only [eb, rm] at r34 ⊢
      refine x_aload_0 dX13_minuteGoes_35 ?_
      refine x_getR dX13_minuteGoes_36 fl1631_13 rfl (by first | (exact MdL.k0 (by assumption)) | (assumption)) (by first | (exact MdL.v_later (by assumption)) | (assumption)) ?_
      refine x_iload_1 dX13_minuteGoes_39 ?_
      refine x_iald_ dX13_minuteGoes_40 (by first | (exact MdL.k_later (by assumption)) | (assumption)) (by first | (exact MdL.x_later (by assumption) (by omega) (by omega)) | (omega)) (fun r40 => ?_)
      rw [el] at r40 ⊢
      refine x_icmp_ge (tgt := 47) dX13_minuteGoes_41 rfl (by omega) (by omega) (fun c41 => ?_) (fun c41 => ?_)
      · have hd := doesR_bd (S := goL T S lt i.toNat) hT ⟨g0, hi⟩ (lt i)
        have hI2 : RowI T (goL T S lt i.toNat) b (q + 7) := hI1.mono (by omega) (by omega)
        have fin : ∀ (h4 : am_H) (w4 : AV), RwF (h4 (o + 38)) (tM T) (goR T (goL T S lt i.toNat) i (lt i)) → FrR hh h4 o → am_X G mX13_minuteGoes (d + 6) 80 [aR o, aI i, w4] [] L h4 Q := fun h4 w4 y1 y2 => by
          refine x_iinc1 dX13_minuteGoes_80 rfl ?_
          refine x_goto (tgt := 2) dX13_minuteGoes_83 rfl ?_
          exact ih _ _ hi ⟨by rw [hlo (by omega)]; exact y1, p2.tr y2⟩
        refine x_aload_0 dX13_minuteGoes_47 ?_
        refine x_iload_1 dX13_minuteGoes_48 ?_
        refine x_callV1 dX13_minuteGoes_49 rfl okX13_goesOf q1957 q1959 qs86 (by first | assumption | (exact MdL.k0 (by assumption))) am_k13 rfl (C_X13_goesOf hM1 hT ⟨g0, hi⟩ p1' hI2 (by omega) el bl (by omega) (fun h1 e1 => (x_k1 ?_)))
        refine x_istore_2 dX13_minuteGoes_52 rfl ?_
        have hM2 : MdT L h1 o s T := hM1.fr e1.w
        have p3 : RwF (h1 (o + 38)) (tM T) (goL T S lt i.toNat) := by rw [e1.row]; exact p1'
        refine x_iload_2 dX13_minuteGoes_53 ?_
        refine x_iconst dX13_minuteGoes_54 ?_
        refine x_iconst dX13_minuteGoes_55 ?_
        refine x_callS3 dX13_minuteGoes_56 rfl okX13_in q1931 q1932 rfl (C_X13_in ⟨by omega, by omega⟩ ⟨by decide, by decide⟩ ⟨by decide, by decide⟩ (x_k1 ?_))
        refine x_if_eq (tgt := 69) dX13_minuteGoes_59 rfl (by split <;> exact ⟨by decide, by decide⟩) (fun c59 => ?_) (fun c59 => ?_)
        · have hw : doesR T (goL T S lt i.toNat) i (lt i) = 0 ∨ doesR T (goL T S lt i.toNat) i (lt i) = 5 := by split at c59 <;> omega
          refine x_iload_2 dX13_minuteGoes_69 ?_
          refine x_iconst dX13_minuteGoes_70 ?_
          refine x_icmp_ne (tgt := 80) dX13_minuteGoes_71 rfl (by omega) (by omega) (fun c71 => ?_) (fun c71 => ?_)
          · refine fin h1 _ ?_ e1.r
            unfold goR
            rw [if_neg (by omega), if_neg (by omega)]
            exact p3
          · refine x_aload_0 dX13_minuteGoes_74 ?_
            refine x_iload_1 dX13_minuteGoes_75 ?_
            refine x_callV1 dX13_minuteGoes_76 rfl okX13_winds q2006 q2008 qs91 (by first | assumption | (exact MdL.k0 (by assumption))) am_k13 rfl (C_X13_winds hM2 hT ⟨g0, hi⟩ p3 hI2 (by omega) (fun hc h2 y1 y2 => (x_k1 ?_)) (fun hc => (x_k1 ?_)))
            · skip
              refine x_pop dX13_minuteGoes_79 rfl ?_
              refine fin h2 _ ?_ (e1.r.tr fun a i z => by rw [y2 a z.2.2.1])
              unfold goR
              rw [if_pos (by omega), if_pos hc]
              exact y1
            · skip
              refine x_pop dX13_minuteGoes_79 rfl ?_
              refine fin h1 _ ?_ e1.r
              unfold goR
              rw [if_pos (by omega), if_neg hc]
              exact p3
        · have hw : 1 ≤ doesR T (goL T S lt i.toNat) i (lt i) ∧ doesR T (goL T S lt i.toNat) i (lt i) ≤ 4 := by split at c59 <;> omega
          refine x_aload_0 dX13_minuteGoes_62 ?_
          refine x_iload_1 dX13_minuteGoes_63 ?_
          refine x_iload_2 dX13_minuteGoes_64 ?_
          refine x_callV2 dX13_minuteGoes_65 rfl okX13_steps q1980 q1982 qs88 (by first | assumption | (exact MdL.k0 (by assumption))) am_k13 rfl (C_X13_steps hM2 hT ⟨g0, hi⟩ hw p3 hI2 (by omega) (fun hc h2 y1 y2 => (x_k1 ?_)) (fun hc h2 y2 => (x_k1 ?_)))
          · skip
            refine x_pop dX13_minuteGoes_68 rfl ?_
            refine x_iload_2 dX13_minuteGoes_69 ?_
            refine x_iconst dX13_minuteGoes_70 ?_
            refine x_icmp_ne (tgt := 80) dX13_minuteGoes_71 rfl (by omega) (by omega) (fun c71 => ?_) (fun c71 => ?_)
            · refine fin h2 _ ?_ (e1.r.tr y2)
              unfold goR
              rw [if_neg (by omega), if_pos (by omega), if_pos hc]
              exact y1
            · exfalso; omega
          · skip
            refine x_pop dX13_minuteGoes_68 rfl ?_
            refine x_iload_2 dX13_minuteGoes_69 ?_
            refine x_iconst dX13_minuteGoes_70 ?_
            refine x_icmp_ne (tgt := 80) dX13_minuteGoes_71 rfl (by omega) (by omega) (fun c71 => ?_) (fun c71 => ?_)
            · refine fin h2 _ ?_ (e1.tr y2).r
              unfold goR
              rw [if_neg (by omega), if_pos (by omega), if_neg hc, y2.row]
              exact p3
            · exfalso; omega
      · refine x_goto (tgt := 80) dX13_minuteGoes_44 rfl ?_
        refine x_iinc1 dX13_minuteGoes_80 rfl ?_
        refine x_goto (tgt := 2) dX13_minuteGoes_83 rfl ?_
        refine ih _ _ hi ⟨?_, p2⟩
        by_cases z : lt i ≤ rM S
        · rw [hlo z]
          first | (rw [goR_lost (by omega)]; exact p1') | (exfalso; omega)
        · rw [hls (by omega)]
          exact p1'
end MSTEP
