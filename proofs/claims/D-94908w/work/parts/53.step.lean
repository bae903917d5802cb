/-! OPERATIONS that change: step, wind, cut -/
set_option maxRecDepth 100000
section STEP
variable {G : am_G} {d : Nat} {L : am_L} {h h' : am_H} {Q : am_O → am_L → am_H → Prop} {x o s t : Int} {g : Sg} {b q : Int}
theorem SgI.push (hI : SgI g b q) : SgI (pushG g) b q := by
  obtain ⟨a1, a2, a3, a4, a5, a6, a7, a8⟩ := hI
  refine ⟨a1, a2, ?_, fun k z0 z1 => ?_, a5, a6, a7, a8⟩
  · show 0 ≤ pushN (gN g) ∧ pushN (gN g) ≤ 30
    unfold pushN
    split <;> omega
  · have z2 : k < pushN (gN g) := z1
    unfold pushN at z2
    show RowI (gT g) (pushH (gN g) (gH g) (gS g) k) b q
    unfold pushH
    split
    · rename_i e
      rw [if_pos e] at z2
      split
      · exact a2
      · exact a4 _ (by omega) (by omega)
    · rename_i e
      rw [if_neg e] at z2
      split
      · exact a2
      · exact a4 _ z0 (by omega)
theorem SgI.setS (hI : SgI g b q) {S : Row} {b' q' : Int} (hS : RowI (gT g) S b' q') (h1 : b ≤ b') (h2 : q ≤ q') : SgI (setS g S) b' q' := by
  obtain ⟨a1, a2, a3, a4, a5, a6, a7, a8⟩ := hI
  exact ⟨a1, hS, a3, fun k z0 z1 => (a4 k z0 z1).mono h1 h2, fun i R z => (a5 i R z).mono h1 h2, a6, a7, a8⟩
theorem SgI.mono (hI : SgI g b q) {b' q' : Int} (h1 : b ≤ b') (h2 : q ≤ q') : SgI g b' q' := hI.setS (hI.2.1.mono h1 h2) h1 h2
def okStep (g : Sg) (m w : Int) : Prop := (0 ≤ m ∧ m < tM (gT g)) ∧ (1 ≤ w ∧ w ≤ 4) ∧ canStep (gT g) (gS g) m w
set_option maxHeartbeats 4000000 in
theorem C_X0_step {m w : Int} (hC : CoI L h x t g) (hI : SgI g b q) (hb : b ≤ 90000 ∧ q ≤ 90000) (hm : rg32 m) (hw : rg32 w) (kt : okStep g m w → ∀ h', CoI L h' x t (setS (pushG g) (stepR (gS g) m w)) → FX h h' x → Q (.inl [aI 1]) L h') (kf : ¬ okStep g m w → ∀ h', CoI L h' x t g → FX h h' x → Q (.inl [aI 0]) L h') : am_C G mX0_step (d + 430) [aR x, aI m, aI w] L h Q := by
  have hT := hI.1
  have hcT := hC.1
  have hK := hcT.mk
  have htx := hcT.tx
  have hht := hcT.ht
  have hcl := hcT.cl
  have htr := hK.trial
  refine x_start okX0_step rfl rfl rfl rfl ?_
  refine x_aload_0 dX0_step_0 ?_
  refine x_iload_1 dX0_step_1 ?_
  refine x_callV1 dX0_step_2 rfl okX0_isMan q1192 q1194 qs32 (by first | assumption | (exact MkL.k0 (by assumption))) am_k0 rfl (C_X0_isMan hcT hT hm (x_k1 ?_))
  refine x_if_eq (tgt := 17) dX0_step_5 rfl (by split <;> omega) (fun c5 => ?_) (fun c5 => ?_)
  · skip
    refine x_iconst dX0_step_17 ?_
    refine x_zret dX0_step_18 rfl (by omega) ?_
    refine kf (fun z => ?_) h hC (fun _ _ => rfl)
    obtain ⟨z1, z2, -⟩ := z
    first | (rw [if_pos z1] at c5; exact absurd c5 (by decide)) | (rw [if_pos z2] at c14; exact absurd rfl c14) | (rw [if_pos z2] at c14; exact absurd c14 (by decide))
  · refine x_iload_2 dX0_step_8 ?_
    refine x_iconst dX0_step_9 ?_
    refine x_iconst dX0_step_10 ?_
    refine x_callS3 dX0_step_11 rfl okX0_isIn q1201 q1202 rfl (C_X0_isIn hw ⟨by decide, by decide⟩ ⟨by decide, by decide⟩ (x_k1 ?_))
    refine x_if_ne (tgt := 19) dX0_step_14 rfl (by split <;> omega) (fun c14 => ?_) (fun c14 => ?_)
    · have hm1 : 0 ≤ m ∧ m < tM (gT g) := by split at c5 <;> omega
      have hw1 : 1 ≤ w ∧ w ≤ 4 := by split at c14 <;> omega
      refine x_aload_0 dX0_step_19 ?_
      refine x_getR dX0_step_20 fl579_0 rfl (by first | (exact MkL.k0 (by assumption)) | (assumption)) (by first | (exact MkL.v_trial (by assumption)) | (assumption)) ?_
      refine x_aload_0 dX0_step_23 ?_
      refine x_getR dX0_step_24 fl578_0 rfl (by first | (exact MkL.k0 (by assumption)) | (assumption)) (by first | (exact MkL.v_cloth (by assumption)) | (assumption)) ?_
      refine x_callV1 dX0_step_27 rfl okX5_takes q1237 q1238 q1239 (by first | assumption | (exact ClL.k0 (by assumption))) am_k5 rfl (C_X5_takes hcT.rc htr hI.2.1 hT (by omega) (fun h1 hr1 hf1 => (x_k0 ?_)))
      have hC1 : CoI L h1 x t g := hC.fr hT hf1.trial
      have hht1 := hC1.1.ht
      refine x_aload_0 dX0_step_30 ?_
      refine x_getR dX0_step_31 fl579_0 rfl (by first | (exact MkL.k0 (by assumption)) | (assumption)) (by first | (exact MkL.v_trial (by assumption)) | (assumption)) ?_
      refine x_aload_0 dX0_step_34 ?_
      refine x_getW dX0_step_35 fl574_0 rfl (by first | (exact MkL.k0 (by assumption)) | (assumption)) (by assumption) ?_
      refine x_iload_1 dX0_step_38 ?_
      refine x_iload_2 dX0_step_39 ?_
      refine x_callV3 dX0_step_40 rfl okX5_steps q1242 q1243 q1244 (by first | assumption | (exact ClL.k0 (by assumption))) am_k5 rfl (C_X5_steps hr1 hI.2.1 ⟨by omega, by omega⟩ hT htx hm1 hw1 (fun hcan h2 hr2 hf2 => (x_k1 ?_)) (fun hcan => (x_k1 ?_)))
      · have hC2 : CoI L h2 x t g := hC1.fr hT hf2.trial
        refine x_if_ne (tgt := 48) dX0_step_43 rfl (by omega) (fun c43 => ?_) (fun c43 => ?_)
        · refine x_aload_0 dX0_step_48 ?_
          refine x_callV0 dX0_step_49 rfl okX0_keeps q1259 q1261 qs34 (by first | assumption | (exact MkL.k0 (by assumption))) am_k0 rfl (C_X0_keeps hC2 hI (fun h3 hC3 e3 f3 => (x_k0 ?_)))
          have hht3 := hC3.1.ht
          refine x_aload_0 dX0_step_52 ?_
          refine x_getR dX0_step_53 fl578_0 rfl (by first | (exact MkL.k0 (by assumption)) | (assumption)) (by first | (exact MkL.v_cloth (by assumption)) | (assumption)) ?_
          refine x_aload_0 dX0_step_56 ?_
          refine x_getW dX0_step_57 fl574_0 rfl (by first | (exact MkL.k0 (by assumption)) | (assumption)) (by assumption) ?_
          refine x_iload_1 dX0_step_60 ?_
          refine x_iload_2 dX0_step_61 ?_
          refine x_callV3 dX0_step_62 rfl okX5_steps q1242 q1243 q1244 (by first | assumption | (exact ClL.k0 (by assumption))) am_k5 rfl (C_X5_steps hC3.1.rc hI.2.1 ⟨by omega, by omega⟩ hT htx hm1 hw1 (fun hcan h4 hr4 hf4 => (x_k1 ?_)) (fun hcan' => (x_k1 ?_)))
          · skip
            refine x_zret dX0_step_65 rfl (by omega) ?_
            exact kt ⟨hm1, hw1, hcan⟩ h4 (hC3.setS hr4 hf4) ((hf1.trial.tr hf2.trial).fx.tr (f3.tr (hf4.fx (by omega))))
          · exact absurd hcan hcan'
        · exact absurd c43 (by decide)
      · skip
        refine x_if_ne (tgt := 48) dX0_step_43 rfl (by omega) (fun c43 => ?_) (fun c43 => ?_)
        · exact absurd c43 (by decide)
        · refine x_iconst dX0_step_46 ?_
          refine x_zret dX0_step_47 rfl (by omega) ?_
          exact kf (fun z => hcan z.2.2) h1 hC1 hf1.trial.fx
    · skip
      refine x_iconst dX0_step_17 ?_
      refine x_zret dX0_step_18 rfl (by omega) ?_
      refine kf (fun z => ?_) h hC (fun _ _ => rfl)
      obtain ⟨z1, z2, -⟩ := z
      first | (rw [if_pos z1] at c5; exact absurd c5 (by decide)) | (rw [if_pos z2] at c14; exact absurd rfl c14) | (rw [if_pos z2] at c14; exact absurd c14 (by decide))
set_option maxHeartbeats 4000000 in
theorem C_X13_step {m w : Int} (hC : TwI L h o s g) (hI : SgI g b q) (hb : b ≤ 90000 ∧ q ≤ 90000) (hm : rg32 m) (hw : rg32 w) (kt : okStep g m w → ∀ h', TwI L h' o s (setS (pushG g) (stepR (gS g) m w)) → FO h h' o → Q (.inl [aI 1]) L h') (kf : ¬ okStep g m w → ∀ h', TwI L h' o s g → FO h h' o → Q (.inl [aI 0]) L h') : am_C G mX13_step (d + 12) [aR o, aI m, aI w] L h Q := by
  have hT := hI.1
  have hcT := hC.1
  have hM := hcT.1
  have hL := hM.1
  refine x_start okX13_step rfl rfl rfl rfl ?_
  refine x_aload_0 dX13_step_0 ?_
  refine x_iload_1 dX13_step_1 ?_
  refine x_callV1 dX13_step_2 rfl okX13_isMan q1927 q1929 qs80 (by first | assumption | (exact MdL.k0 (by assumption))) am_k13 rfl (C_X13_isMan hM hT hm (x_k1 ?_))
  refine x_if_eq (tgt := 17) dX13_step_5 rfl (by split <;> omega) (fun c5 => ?_) (fun c5 => ?_)
  · skip
    refine x_iconst dX13_step_17 ?_
    refine x_zret dX13_step_18 rfl (by omega) ?_
    refine kf (fun z => ?_) h hC (fun _ _ => rfl)
    obtain ⟨z1, z2, -⟩ := z
    first | (rw [if_pos z1] at c5; exact absurd c5 (by decide)) | (rw [if_pos z2] at c14; exact absurd rfl c14) | (rw [if_pos z2] at c14; exact absurd c14 (by decide))
  · refine x_iload_2 dX13_step_8 ?_
    refine x_iconst dX13_step_9 ?_
    refine x_iconst dX13_step_10 ?_
    refine x_callS3 dX13_step_11 rfl okX13_in q1931 q1932 rfl (C_X13_in hw ⟨by decide, by decide⟩ ⟨by decide, by decide⟩ (x_k1 ?_))
    refine x_if_ne (tgt := 19) dX13_step_14 rfl (by split <;> omega) (fun c14 => ?_) (fun c14 => ?_)
    · have hm1 : 0 ≤ m ∧ m < tM (gT g) := by split at c5 <;> omega
      have hw1 : 1 ≤ w ∧ w ≤ 4 := by split at c14 <;> omega
      refine x_aload_0 dX13_step_19 ?_
      refine x_callV0 dX13_step_20 rfl okX13_copies q1934 q1936 qs81 (by first | assumption | (exact MdL.k0 (by assumption))) am_k13 rfl (C_X13_copiesR hL hcT.2 hI.2.1 hT (fun h1 e1 f1 e2 e3 => (x_k0 ?_)))
      have hC1 : TwI L h1 o s g := hC.mv hT f1
      refine x_aload_0 dX13_step_23 ?_
      refine x_iload_1 dX13_step_24 ?_
      refine x_iload_2 dX13_step_25 ?_
      refine x_callV2 dX13_step_26 rfl okX13_steps q1980 q1982 qs88 (by first | assumption | (exact MdL.k0 (by assumption))) am_k13 rfl (C_X13_steps hC1.1.1 hT hm1 hw1 e2 hI.2.1 (by omega) (fun hcan h2 r2 f2 => (x_k1 ?_)) (fun hcan h2 f2 => (x_k1 ?_)))
      · have hC2 : TwI L h2 o s g := hC1.mv hT f2.w
        refine x_if_ne (tgt := 34) dX13_step_29 rfl (by omega) (fun c29 => ?_) (fun c29 => ?_)
        · refine x_aload_0 dX13_step_34 ?_
          refine x_callV0 dX13_step_35 rfl okX13_keeps q1997 q1999 qs90 (by first | assumption | (exact MdL.k0 (by assumption))) am_k13 rfl (C_X13_keeps hC2 (hI.mono (by omega) (by omega : q ≤ q + 1)) r2 (hI.2.1.step hT hm1 hw1 hcan) (fun h3 hC3 f3 => (x_k0 ?_)))
          refine x_iconst dX13_step_38 ?_
          refine x_zret dX13_step_39 rfl (by omega) ?_
          exact kt ⟨hm1, hw1, hcan⟩ h3 hC3 ((f1.tr f2.w).fo.tr f3)
        · exact absurd c29 (by decide)
      · have hC2 : TwI L h2 o s g := hC1.mv hT f2.w
        refine x_if_ne (tgt := 34) dX13_step_29 rfl (by omega) (fun c29 => ?_) (fun c29 => ?_)
        · exact absurd c29 (by decide)
        · refine x_iconst dX13_step_32 ?_
          refine x_zret dX13_step_33 rfl (by omega) ?_
          exact kf (fun z => hcan z.2.2) h2 hC2 (f1.tr f2.w).fo
    · skip
      refine x_iconst dX13_step_17 ?_
      refine x_zret dX13_step_18 rfl (by omega) ?_
      refine kf (fun z => ?_) h hC (fun _ _ => rfl)
      obtain ⟨z1, z2, -⟩ := z
      first | (rw [if_pos z1] at c5; exact absurd c5 (by decide)) | (rw [if_pos z2] at c14; exact absurd rfl c14) | (rw [if_pos z2] at c14; exact absurd c14 (by decide))
def okWind (g : Sg) (m : Int) : Prop := (0 ≤ m ∧ m < tM (gT g)) ∧ canWind (gT g) (gS g) m
set_option maxHeartbeats 4000000 in
theorem C_X0_wind {m : Int} (hC : CoI L h x t g) (hI : SgI g b q) (hb : b ≤ 90000 ∧ q ≤ 90000) (hm : rg32 m) (kt : okWind g m → ∀ h', CoI L h' x t (setS (pushG g) (windR (gS g) m)) → FX h h' x → Q (.inl [aI 1]) L h') (kf : ¬ okWind g m → ∀ h', CoI L h' x t g → FX h h' x → Q (.inl [aI 0]) L h') : am_C G mX0_wind (d + 430) [aR x, aI m] L h Q := by
  have hT := hI.1
  have hcT := hC.1
  have hK := hcT.mk
  have htx := hcT.tx
  have hht := hcT.ht
  have hcl := hcT.cl
  have htr := hK.trial
  refine x_start okX0_wind rfl rfl rfl rfl ?_
  refine x_aload_0 dX0_wind_0 ?_
  refine x_iload_1 dX0_wind_1 ?_
  refine x_callV1 dX0_wind_2 rfl okX0_isMan q1192 q1194 qs32 (by first | assumption | (exact MkL.k0 (by assumption))) am_k0 rfl (C_X0_isMan hcT hT hm (x_k1 ?_))
  refine x_if_ne (tgt := 10) dX0_wind_5 rfl (by split <;> omega) (fun c5 => ?_) (fun c5 => ?_)
  · have hm1 : 0 ≤ m ∧ m < tM (gT g) := by split at c5 <;> omega
    refine x_aload_0 dX0_wind_10 ?_
    refine x_getR dX0_wind_11 fl579_0 rfl (by first | (exact MkL.k0 (by assumption)) | (assumption)) (by first | (exact MkL.v_trial (by assumption)) | (assumption)) ?_
    refine x_aload_0 dX0_wind_14 ?_
    refine x_getR dX0_wind_15 fl578_0 rfl (by first | (exact MkL.k0 (by assumption)) | (assumption)) (by first | (exact MkL.v_cloth (by assumption)) | (assumption)) ?_
    refine x_callV1 dX0_wind_18 rfl okX5_takes q1237 q1238 q1239 (by first | assumption | (exact ClL.k0 (by assumption))) am_k5 rfl (C_X5_takes hcT.rc htr hI.2.1 hT (by omega) (fun h1 hr1 hf1 => (x_k0 ?_)))
    have hC1 : CoI L h1 x t g := hC.fr hT hf1.trial
    refine x_aload_0 dX0_wind_21 ?_
    refine x_getR dX0_wind_22 fl579_0 rfl (by first | (exact MkL.k0 (by assumption)) | (assumption)) (by first | (exact MkL.v_trial (by assumption)) | (assumption)) ?_
    refine x_iload_1 dX0_wind_25 ?_
    refine x_callV1 dX0_wind_26 rfl okX5_winds q1267 q1268 q1269 (by first | assumption | (exact ClL.k0 (by assumption))) am_k5 rfl (C_X5_winds hr1 hI.2.1 hT hm1 (fun hcan h2 hr2 hf2 => (x_k1 ?_)) (fun hcan => (x_k1 ?_)))
    · have hC2 : CoI L h2 x t g := hC1.fr hT hf2.trial
      refine x_if_ne (tgt := 34) dX0_wind_29 rfl (by omega) (fun c29 => ?_) (fun c29 => ?_)
      · refine x_aload_0 dX0_wind_34 ?_
        refine x_callV0 dX0_wind_35 rfl okX0_keeps q1259 q1261 qs34 (by first | assumption | (exact MkL.k0 (by assumption))) am_k0 rfl (C_X0_keeps hC2 hI (fun h3 hC3 e3 f3 => (x_k0 ?_)))
        refine x_aload_0 dX0_wind_38 ?_
        refine x_getR dX0_wind_39 fl578_0 rfl (by first | (exact MkL.k0 (by assumption)) | (assumption)) (by first | (exact MkL.v_cloth (by assumption)) | (assumption)) ?_
        refine x_iload_1 dX0_wind_42 ?_
        refine x_callV1 dX0_wind_43 rfl okX5_winds q1267 q1268 q1269 (by first | assumption | (exact ClL.k0 (by assumption))) am_k5 rfl (C_X5_winds hC3.1.rc hI.2.1 hT hm1 (fun hcan h4 hr4 hf4 => (x_k1 ?_)) (fun hcan' => (x_k1 ?_)))
        · skip
          refine x_zret dX0_wind_46 rfl (by omega) ?_
          exact kt ⟨hm1, hcan⟩ h4 (hC3.setS hr4 hf4) ((hf1.trial.tr hf2.trial).fx.tr (f3.tr (hf4.fx (by omega))))
        · exact absurd hcan hcan'
      · exact absurd c29 (by decide)
    · skip
      refine x_if_ne (tgt := 34) dX0_wind_29 rfl (by omega) (fun c29 => ?_) (fun c29 => ?_)
      · exact absurd c29 (by decide)
      · refine x_iconst dX0_wind_32 ?_
        refine x_zret dX0_wind_33 rfl (by omega) ?_
        exact kf (fun z => hcan z.2) h1 hC1 hf1.trial.fx
  · refine x_iconst dX0_wind_8 ?_
    refine x_zret dX0_wind_9 rfl (by omega) ?_
    refine kf (fun z => ?_) h hC (fun _ _ => rfl)
    rw [if_pos z.1] at c5
    exact absurd c5 (by decide)
theorem C_X13_wind {m : Int} (hC : TwI L h o s g) (hI : SgI g b q) (hb : b ≤ 90000 ∧ q ≤ 90000) (hm : rg32 m) (kt : okWind g m → ∀ h', TwI L h' o s (setS (pushG g) (windR (gS g) m)) → FO h h' o → Q (.inl [aI 1]) L h') (kf : ¬ okWind g m → ∀ h', TwI L h' o s g → FO h h' o → Q (.inl [aI 0]) L h') : am_C G mX13_wind (d + 12) [aR o, aI m] L h Q := by
  have hT := hI.1
  have hcT := hC.1
  have hM := hcT.1
  have hL := hM.1
  refine x_start okX13_wind rfl rfl rfl rfl ?_
  refine x_aload_0 dX13_wind_0 ?_
  refine x_iload_1 dX13_wind_1 ?_
  refine x_callV1 dX13_wind_2 rfl okX13_isMan q1927 q1929 qs80 (by first | assumption | (exact MdL.k0 (by assumption))) am_k13 rfl (C_X13_isMan hM hT hm (x_k1 ?_))
  refine x_if_ne (tgt := 10) dX13_wind_5 rfl (by split <;> omega) (fun c5 => ?_) (fun c5 => ?_)
  · have hm1 : 0 ≤ m ∧ m < tM (gT g) := by split at c5 <;> omega
    refine x_aload_0 dX13_wind_10 ?_
    refine x_callV0 dX13_wind_11 rfl okX13_copies q1934 q1936 qs81 (by first | assumption | (exact MdL.k0 (by assumption))) am_k13 rfl (C_X13_copiesR hL hcT.2 hI.2.1 hT (fun h1 e1 f1 e2 e3 => (x_k0 ?_)))
    have hC1 : TwI L h1 o s g := hC.mv hT f1
    refine x_aload_0 dX13_wind_14 ?_
    refine x_iload_1 dX13_wind_15 ?_
    refine x_callV1 dX13_wind_16 rfl okX13_winds q2006 q2008 qs91 (by first | assumption | (exact MdL.k0 (by assumption))) am_k13 rfl (C_X13_winds hC1.1.1 hT hm1 e2 hI.2.1 (by omega) (fun hcan h2 r2 f2 => (x_k1 ?_)) (fun hcan => (x_k1 ?_)))
    · have f2w : FrW h1 h2 o := fun a i z => by rw [f2 a (by omega)]
      have hC2 : TwI L h2 o s g := hC1.mv hT f2w
      refine x_if_ne (tgt := 24) dX13_wind_19 rfl (by omega) (fun c19 => ?_) (fun c19 => ?_)
      · refine x_aload_0 dX13_wind_24 ?_
        refine x_callV0 dX13_wind_25 rfl okX13_keeps q1997 q1999 qs90 (by first | assumption | (exact MdL.k0 (by assumption))) am_k13 rfl (C_X13_keeps hC2 hI r2 (hI.2.1.wind hT hm1 hcan) (fun h3 hC3 f3 => (x_k0 ?_)))
        refine x_iconst dX13_wind_28 ?_
        refine x_zret dX13_wind_29 rfl (by omega) ?_
        exact kt ⟨hm1, hcan⟩ h3 hC3 ((f1.tr f2w).fo.tr f3)
      · exact absurd c19 (by decide)
    · skip
      refine x_if_ne (tgt := 24) dX13_wind_19 rfl (by omega) (fun c19 => ?_) (fun c19 => ?_)
      · exact absurd c19 (by decide)
      · refine x_iconst dX13_wind_22 ?_
        refine x_zret dX13_wind_23 rfl (by omega) ?_
        exact kf (fun z => hcan z.2) h1 hC1 f1.fo
  · refine x_iconst dX13_wind_8 ?_
    refine x_zret dX13_wind_9 rfl (by omega) ?_
    refine kf (fun z => ?_) h hC (fun _ _ => rfl)
    rw [if_pos z.1] at c5
    exact absurd c5 (by decide)
def okCut (g : Sg) (m : Int) : Prop := (0 ≤ m ∧ m < tM (gT g)) ∧ bt (rL (gS g)) m = 0
theorem C_X0_cut {m : Int} (hC : CoI L h x t g) (hI : SgI g b q) (hm : rg32 m) (kt : okCut g m → ∀ h', CoI L h' x t (setS (pushG g) (cutR (gS g) m)) → FX h h' x → Q (.inl [aI (rN (gS g) m)]) L h') (kf : ¬ okCut g m → Q (.inl [aI (-1)]) L h) : am_C G mX0_cut (d + 430) [aR x, aI m] L h Q := by
  have hT := hI.1
  have hcT := hC.1
  have hK := hcT.mk
  have hcl := hcT.cl
  have h7 := hT.1
  have b01 := bt_01 (rL (gS g)) m
  refine x_start okX0_cut rfl rfl rfl rfl ?_
  refine x_aload_0 dX0_cut_0 ?_
  refine x_iload_1 dX0_cut_1 ?_
  refine x_callV1 dX0_cut_2 rfl okX0_isMan q1192 q1194 qs32 (by first | assumption | (exact MkL.k0 (by assumption))) am_k0 rfl (C_X0_isMan hcT hT hm (x_k1 ?_))
  refine x_if_eq (tgt := 19) dX0_cut_5 rfl (by split <;> omega) (fun c5 => ?_) (fun c5 => ?_)
  · skip
    refine x_iconst dX0_cut_19 ?_
    refine x_iret dX0_cut_20 rfl ?_
    refine kf (fun z => ?_)
    rw [if_pos z.1] at c5
    exact absurd c5 (by decide)
  · have hm1 : 0 ≤ m ∧ m < tM (gT g) := by split at c5 <;> omega
    refine x_aload_0 dX0_cut_8 ?_
    refine x_getR dX0_cut_9 fl578_0 rfl (by first | (exact MkL.k0 (by assumption)) | (assumption)) (by first | (exact MkL.v_cloth (by assumption)) | (assumption)) ?_
    refine x_iload_1 dX0_cut_12 ?_
    refine x_callV1 dX0_cut_13 rfl okX5_isLost q1206 q1207 q1208 (by first | assumption | (exact ClL.k0 (by assumption))) am_k5 rfl (C_X5_isLost hcT.rc ⟨hm1.1, by omega⟩ (x_k1 ?_))
    refine x_if_eq (tgt := 21) dX0_cut_16 rfl (by omega) (fun c16 => ?_) (fun c16 => ?_)
    · refine x_aload_0 dX0_cut_21 ?_
      refine x_callV0 dX0_cut_22 rfl okX0_keeps q1259 q1261 qs34 (by first | assumption | (exact MkL.k0 (by assumption))) am_k0 rfl (C_X0_keeps hC hI (fun h3 hC3 e3 f3 => (x_k0 ?_)))
      refine x_aload_0 dX0_cut_25 ?_
      refine x_getR dX0_cut_26 fl578_0 rfl (by first | (exact MkL.k0 (by assumption)) | (assumption)) (by first | (exact MkL.v_cloth (by assumption)) | (assumption)) ?_
      refine x_iload_1 dX0_cut_29 ?_
      refine x_callV1 dX0_cut_30 rfl okX5_cuts q1280 q1281 q1282 (by first | assumption | (exact ClL.k0 (by assumption))) am_k5 rfl (C_X5_cuts hC3.1.rc hm1 hT (fun h4 hr4 hf4 => (x_k1 ?_)))
      refine x_iret dX0_cut_33 rfl ?_
      exact kt ⟨hm1, by omega⟩ h4 (hC3.setS hr4 hf4) (f3.tr (hf4.fx (by omega)))
    · skip
      refine x_iconst dX0_cut_19 ?_
      refine x_iret dX0_cut_20 rfl ?_
      exact kf (fun z => by have := z.2; omega)
set_option maxHeartbeats 4000000 in
theorem C_X13_cut {m : Int} (hC : TwI L h o s g) (hI : SgI g b q) (hm : rg32 m) (kt : okCut g m → ∀ h', TwI L h' o s (setS (pushG g) (cutR (gS g) m)) → FO h h' o → Q (.inl [aI (rN (gS g) m)]) L h') (kf : ¬ okCut g m → Q (.inl [aI (-1)]) L h) : am_C G mX13_cut (d + 12) [aR o, aI m] L h Q := by
  have hT := hI.1
  have hcT := hC.1
  have hM := hcT.1
  have hL := hM.1
  have h7 := hT.1
  have hnow := hcT.2
  have b01 := bt_01 (rL (gS g)) m
  refine x_start okX13_cut rfl rfl rfl rfl ?_
  refine x_aload_0 dX13_cut_0 ?_
  refine x_iload_1 dX13_cut_1 ?_
  refine x_callV1 dX13_cut_2 rfl okX13_isMan q1927 q1929 qs80 (by first | assumption | (exact MdL.k0 (by assumption))) am_k13 rfl (C_X13_isMan hM hT hm (x_k1 ?_))
  refine x_if_eq (tgt := 21) dX13_cut_5 rfl (by split <;> omega) (fun c5 => ?_) (fun c5 => ?_)
  · skip
    refine x_iconst dX13_cut_21 ?_
    refine x_iret dX13_cut_22 rfl ?_
    refine kf (fun z => ?_)
    rw [if_pos z.1] at c5
    exact absurd c5 (by decide)
  · have hm1 : 0 ≤ m ∧ m < tM (gT g) := by split at c5 <;> omega
    have eb := (hnow.1 m hm1.1 (by omega)).2
    refine x_aload_0 dX13_cut_8 ?_
    refine x_getR dX13_cut_9 fl1629_13 rfl (by first | (exact MdL.k0 (by assumption)) | (assumption)) (by first | (exact MdL.v_now (by assumption)) | (assumption)) ?_
    refine x_bipush dX13_cut_12 rfl ?_
    refine x_iload_1 dX13_cut_14 ?_
    refine x_iadd dX13_cut_15 ?_
    refine x_iald_ dX13_cut_16 (by first | (exact MdL.k_now (by assumption)) | (assumption)) (by first | (exact MdL.x_now (by assumption) (by omega) (by omega)) | (omega)) (fun r16 => ?_)
    rw [eb] at r16 ⊢
    refine x_iconst dX13_cut_17 ?_
    refine x_icmp_ne (tgt := 23) dX13_cut_18 rfl (by omega) (by omega) (fun c18 => ?_) (fun c18 => ?_)
    · refine x_aload_0 dX13_cut_23 ?_
      refine x_callV0 dX13_cut_24 rfl okX13_copies q1934 q1936 qs81 (by first | assumption | (exact MdL.k0 (by assumption))) am_k13 rfl (C_X13_copiesR hL hcT.2 hI.2.1 hT (fun h1 e1 f1 e2 e3 => (x_k0 ?_)))
      have hC1 : TwI L h1 o s g := hC.mv hT f1
      obtain ⟨rn, rx, rk, rm, rq⟩ := e2
      have en := (rn m hm1.1 (by omega)).1
      refine x_aload_0 dX13_cut_27 ?_
      refine x_getR dX13_cut_28 fl1630_13 rfl (by first | (exact MdL.k0 (by assumption)) | (assumption)) (by first | (exact MdL.v_row (by assumption)) | (assumption)) ?_
      refine x_bipush dX13_cut_31 rfl ?_
      refine x_iload_1 dX13_cut_33 ?_
      refine x_iadd dX13_cut_34 ?_
      refine x_iald_ dX13_cut_35 (by first | (exact MdL.k_row (by assumption)) | (assumption)) (by first | (exact MdL.x_row (by assumption) (by omega) (by omega)) | (omega)) (fun r35 => ?_)
      rw [en] at r35 ⊢
      refine x_istore_2 dX13_cut_36 rfl ?_
      refine x_aload_0 dX13_cut_37 ?_
      refine x_getR dX13_cut_38 fl1630_13 rfl (by first | (exact MdL.k0 (by assumption)) | (assumption)) (by first | (exact MdL.v_row (by assumption)) | (assumption)) ?_
      refine x_bipush dX13_cut_41 rfl ?_
      refine x_iload_1 dX13_cut_43 ?_
      refine x_iadd dX13_cut_44 ?_
      refine x_iconst dX13_cut_45 ?_
      refine x_iast_ dX13_cut_46 (by first | (exact MdL.k_row (by assumption)) | (assumption)) (by first | (exact MdL.x_row (by assumption) (by omega) (by omega)) | (omega)) (by omega) ?_
      refine x_aload_0 dX13_cut_47 ?_
      refine x_getR dX13_cut_48 fl1630_13 rfl (by first | (exact MdL.k0 (by assumption)) | (assumption)) (by first | (exact MdL.v_row (by assumption)) | (assumption)) ?_
      refine x_bipush dX13_cut_51 rfl ?_
      refine x_iload_1 dX13_cut_53 ?_
      refine x_iadd dX13_cut_54 ?_
      refine x_iconst dX13_cut_55 ?_
      refine x_iast_ dX13_cut_56 (by first | (exact MdL.k_row (by assumption)) | (assumption)) (by first | (exact MdL.x_row (by assumption) (by omega) (by omega)) | (omega)) (by omega) ?_
      have f2w : FrW h1 (am_st (am_st h1 (o + 38) (14 + m) 0) (o + 38) (21 + m) 1) o := fun a i z => by rw [am_st_o (by omega), am_st_o (by omega)]
      have hC2 := hC1.mv hT f2w
      have r2 : RwF (am_st (am_st h1 (o + 38) (14 + m) 0) (o + 38) (21 + m) 1 (o + 38)) (tM (gT g)) (cutR (gS g) m) := by
        refine ⟨fun n z0 z1 => ?_, fun n z0 z1 => ?_, fun n j z0 z1 z2 z3 => ?_, ?_, ?_⟩
        · have e := (bt_or hI.2.1.2.2.2.2.1 (m := m) (o := n) ⟨hm1.1, by omega⟩ ⟨z0, z1⟩).1
          obtain ⟨y1, y2⟩ := rn n z0 z1
          show _ = up1 (rN (gS g)) m 0 n ∧ _ = bt (bOr (rL (gS g)) (bShl 1 m)) n
          rw [e]
          simp (disch := omega) only [am_st_at, true_and]
          unfold up1
          constructor <;> (repeat' split) <;> omega
        · simp (disch := omega) only [am_st_i]
          exact rx n z0 z1
        · have z4 : j < up1 (rN (gS g)) m 0 n := z3
          have z5 := hI.2.1.n60 hT n z0 z1
          unfold up1 at z4
          split at z4
          · omega
          · simp (disch := omega) only [am_st_i]
            exact rk n j z0 z1 z2 z4
        · simp (disch := omega) only [am_st_i]
          exact rm
        · simp (disch := omega) only [am_st_i]
          exact rq
      refine x_aload_0 dX13_cut_57 ?_
      refine x_callV0 dX13_cut_58 rfl okX13_keeps q1997 q1999 qs90 (by first | assumption | (exact MdL.k0 (by assumption))) am_k13 rfl (C_X13_keeps hC2 hI r2 (hI.2.1.cut hT hm1) (fun h3 hC3 f3 => (x_k0 ?_)))
      refine x_iload_2 dX13_cut_61 ?_
      refine x_iret dX13_cut_62 rfl ?_
      exact kt ⟨hm1, by omega⟩ h3 hC3 ((f1.tr f2w).fo.tr f3)
    · skip
      refine x_iconst dX13_cut_21 ?_
      refine x_iret dX13_cut_22 rfl ?_
      exact kf (fun z => by have := z.2; omega)
end STEP
