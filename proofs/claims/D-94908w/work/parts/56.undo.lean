/-! OPERATIONS: undo -/
set_option maxRecDepth 100000
section UNDO
variable {G : am_G} {d : Nat} {L : am_L} {h h' : am_H} {Q : am_O → am_L → am_H → Prop} {x o s t : Int} {g : Sg} {b q : Int}
def undoG (g : Sg) : Sg := setS (setH g (gN g - 1) (gH g)) (gH g (gN g - 1))
theorem SgI.undo (hI : SgI g b q) (h0 : gN g ≠ 0) : SgI (undoG g) b q := by
  obtain ⟨a1, a2, a3, a4, a5, a6, a7, a8⟩ := hI
  refine ⟨a1, a4 _ (by omega) (by omega), ?_, fun k z0 z1 => ?_, a5, a6, a7, a8⟩
  · show 0 ≤ gN g - 1 ∧ gN g - 1 ≤ 30
    omega
  · have : k < gN g - 1 := z1
    exact a4 k z0 (by omega)
set_option maxHeartbeats 4000000 in
theorem C_X0_undo (hC : CoI L h x t g) (hI : SgI g b q) (kt : gN g ≠ 0 → ∀ h', CoI L h' x t (undoG g) → FX h h' x → Q (.inl [aI 1]) L h') (kf : gN g = 0 → Q (.inl [aI 0]) L h) : am_C G mX0_undo (d + 430) [aR x] L h Q := by
  have hC0 := hC
  obtain ⟨a1, ⟨b1, b2, b3⟩, c, ⟨d1, d2⟩, ⟨e1, e2⟩, f⟩ := hC
  have hT := hI.1
  have hK := a1.mk
  have hcl := a1.cl
  have hn := hI.2.2.1
  generalize eu : h x 6 = u at *
  generalize en : gN g = n at *
  refine x_start okX0_undo rfl rfl rfl rfl ?_
  refine x_aload_0 dX0_undo_0 ?_
  refine x_getI_ dX0_undo_1 fl576_0 (by first | (exact MkL.k0 (by assumption)) | (assumption)) (fun r1 => ?_)
  rw [b1] at r1 ⊢
  refine x_if_ne (tgt := 9) dX0_undo_4 rfl (by omega) (fun c4 => ?_) (fun c4 => ?_)
  · have eb : bRem (u + 30 - 1) 30 = (u + 29) % 30 := by rw [bRem_nn ⟨by omega, by omega⟩ ⟨by decide, by decide⟩]; omega
    have hpc := hK.pcl (k := (u + 29) % 30) (by omega) (by omega)
    have ep : pcA x u n (n - 1) = x + 275 + 31 * ((u + 29) % 30) := by unfold pcA; omega
    have hr := b3 (n - 1) (by omega) (by omega)
    rw [ep] at hr
    have hIk := hI.2.2.2.1 (n - 1) (by omega) (by omega)
    refine x_aload_0 dX0_undo_9 ?_
    refine x_dup dX0_undo_10 rfl ?_
    refine x_getI_ dX0_undo_11 fl576_0 (by first | (exact MkL.k0 (by assumption)) | (assumption)) (fun r11 => ?_)
    rw [b1] at r11 ⊢
    refine x_iconst dX0_undo_14 ?_
    refine x_isub dX0_undo_15 ?_
    refine x_putI_ dX0_undo_16 fl576_0 (by first | (exact MkL.k0 (by assumption)) | (assumption)) (by omega) ?_
    refine x_aload_0 dX0_undo_19 ?_
    refine x_aload_0 dX0_undo_20 ?_
    refine x_getI_ dX0_undo_21 fl577_0 (by first | (exact MkL.k0 (by assumption)) | (assumption)) (fun r21 => ?_)
    simp (disch := omega) only [am_st_i] at r21 ⊢
    rw [eu] at r21 ⊢
    refine x_bipush dX0_undo_24 rfl ?_
    refine x_iadd dX0_undo_26 ?_
    refine x_iconst dX0_undo_27 ?_
    refine x_isub dX0_undo_28 ?_
    refine x_bipush dX0_undo_29 rfl ?_
    refine x_irem dX0_undo_31 (by omega) (by omega) ?_
    rw [eb]
    refine x_putI_ dX0_undo_32 fl577_0 (by first | (exact MkL.k0 (by assumption)) | (assumption)) (by omega) ?_
    refine x_aload_0 dX0_undo_35 ?_
    refine x_getR dX0_undo_36 fl578_0 rfl (by first | (exact MkL.k0 (by assumption)) | (assumption)) (by first | (exact MkL.v_cloth (by assumption)) | (assumption)) ?_
    refine x_aload_0 dX0_undo_39 ?_
    refine x_getR dX0_undo_40 fl580_0 rfl (by first | (exact MkL.k0 (by assumption)) | (assumption)) (by first | (exact MkL.v_past (by assumption)) | (assumption)) ?_
    refine x_aload_0 dX0_undo_43 ?_
    refine x_getI_ dX0_undo_44 fl577_0 (by first | (exact MkL.k0 (by assumption)) | (assumption)) (fun r44 => ?_)
    rw [am_st_s] at r44 ⊢
    have hr2 : RC L (am_st (am_st h x 5 (n - 1)) x 6 ((u + 29) % 30)) (x + 275 + 31 * ((u + 29) % 30)) (gT g) (gH g (n - 1)) := hr.fr fun a z0 z1 => by rw [am_st_o (by omega), am_st_o (by omega)]
    refine x_aald dX0_undo_47 (by first | (exact MkL.k_past (by assumption)) | (assumption)) (by decide) (by decide) (by first | (exact MkL.x_past (by assumption) (by omega) (by omega)) | (omega)) (by first | (exact MkL.e_past (by assumption) (by omega) (by omega)) | (assumption)) ?_
    refine x_callV1 dX0_undo_48 rfl okX5_takes q1237 q1238 q1239 (by first | assumption | (exact ClL.k0 (by assumption))) am_k5 rfl (C_X5_takes hr2 hcl hIk hT (by omega) (fun h1 hr1 hf1 => (x_k0 ?_)))
    refine x_iconst dX0_undo_51 ?_
    refine x_zret dX0_undo_52 rfl (by omega) ?_
    have fo : ∀ j, j ≠ 5 → j ≠ 6 → h1 x j = h x j := fun j z0 z1 => by rw [hf1 x (by omega), am_st_i z1, am_st_i z0]
    have fa : ∀ a, a ≠ x → (a < x + 17 ∨ x + 48 ≤ a) → h1 a = h a := fun a z0 z1 => by rw [hf1 a (by omega), am_st_o z0, am_st_o z0]
    have f5 : h1 x 5 = n - 1 := by rw [hf1 x (by omega), am_st_i (by omega), am_st_s]
    have f6 : h1 x 6 = (u + 29) % 30 := by rw [hf1 x (by omega), am_st_s]
    have hgS : gS (undoG g) = gH g (n - 1) := by show gH g (gN g - 1) = _; rw [en]
    have hgN : gN (undoG g) = n - 1 := by show gN g - 1 = _; rw [en]
    refine kt (by omega) h1 ⟨⟨a1.1, by rw [fo _ (by omega) (by omega)]; exact a1.ht, a1.tx, by rw [hgS]; exact hr1⟩, ⟨by rw [hgN]; exact f5, by rw [f6]; omega, fun k z0 z1 => ?_⟩, fun i z0 z1 => ?_, ⟨by rw [fo _ (by omega) (by omega)]; exact d1, fun i z0 z1 => ?_⟩, ⟨by rw [fa (x + 2) (by omega) (by omega)]; exact e1, fun i z0 z1 => ?_⟩, by rw [fo _ (by omega) (by omega)]; exact f⟩ (fun a z => fa a (by omega) (by omega))
    · rw [hgN] at z1
      rw [f6, hgN]
      have z2 := pcA_rg (x := x) (u := u) (n := n) (k := k)
      have := (b3 k z0 (by omega)).fr (h' := h1) fun a y0 y1 => fa a (by omega) (by omega)
      rw [show pcA x ((u + 29) % 30) (n - 1) k = pcA x u n k by unfold pcA; omega]
      exact this
    · rw [fa (x + 180) (by omega) (by omega)]
      rcases c i z0 z1 with z | ⟨R, z2, z3, z4⟩
      · exact Or.inl z
      · exact Or.inr ⟨R, z2, z3, z4.fr fun a y0 y1 => fa a (by omega) (by omega)⟩
    · rw [fa (x + 271) (by omega) (by omega), fa (x + 272) (by omega) (by omega), fa (x + 274) (by omega) (by omega)]
      exact d2 i z0 z1
    · rw [fa (x + 4) (by omega) (by omega)]
      exact e2 i z0 z1
  · refine x_iconst dX0_undo_7 ?_
    refine x_zret dX0_undo_8 rfl (by omega) ?_
    exact kf (by omega)
set_option maxHeartbeats 4000000 in
theorem C_X13_undo (hC : TwI L h o s g) (hI : SgI g b q) (kt : gN g ≠ 0 → ∀ h', TwI L h' o s (undoG g) → FO h h' o → Q (.inl [aI 1]) L h') (kf : gN g = 0 → Q (.inl [aI 0]) L h) : am_C G mX13_undo (d + 12) [aR o] L h Q := by
  have hC0 := hC
  obtain ⟨⟨a1, a2⟩, ⟨b1, b3⟩, c, ⟨d1, d2⟩, ⟨e1, e2⟩, f⟩ := hC
  have hL := a1.1
  have hn := hI.2.2.1
  have hT := hI.1
  generalize en : gN g = n at *
  refine x_start okX13_undo rfl rfl rfl rfl ?_
  refine x_aload_0 dX13_undo_0 ?_
  refine x_getI_ dX13_undo_1 fl1632_13 (by first | (exact MdL.k0 (by assumption)) | (assumption)) (fun r1 => ?_)
  rw [b1] at r1 ⊢
  refine x_if_ne (tgt := 9) dX13_undo_4 rfl (by omega) (fun c4 => ?_) (fun c4 => ?_)
  · have hIk := hI.2.2.2.1 (n - 1) (by omega) (by omega)
    refine x_aload_0 dX13_undo_9 ?_
    refine x_dup dX13_undo_10 rfl ?_
    refine x_getI_ dX13_undo_11 fl1632_13 (by first | (exact MdL.k0 (by assumption)) | (assumption)) (fun r11 => ?_)
    rw [b1] at r11 ⊢
    refine x_iconst dX13_undo_14 ?_
    refine x_isub dX13_undo_15 ?_
    refine x_putI_ dX13_undo_16 fl1632_13 (by first | (exact MdL.k0 (by assumption)) | (assumption)) (by omega) ?_
    refine x_iconst dX13_undo_19 ?_
    refine x_istore_1 dX13_undo_20 rfl ?_
    refine x_for 1290 (fun i h2 => (∀ a, a ≠ (o + 37) → h2 a = am_st h o 58 (n - 1) a) ∧ ∀ j, 0 ≤ j → j < i → h2 (o + 37) j = h (o + 40) (1290 * (n - 1) + j)) (fun i h2 => am_X G mX13_undo (d + 12) 21 [aR o, aI i] [] L h2 Q) (fun i h2 g0 g1 hP ih => ?_) _ (by omega) ⟨fun _ _ => rfl, fun j z0 z1 => by omega⟩
    obtain ⟨u1, u2⟩ := hP
    have g58 : h2 o 58 = n - 1 := by rw [u1 o (by omega), am_st_s]
    refine x_iload_1 dX13_undo_21 ?_
    refine x_sipush dX13_undo_22 rfl ?_
    refine x_icmp_ge (tgt := 55) dX13_undo_25 rfl (by omega) (by omega) (fun c25 => ?_) (fun c25 => ?_)
    · refine x_iconst dX13_undo_55 ?_
      refine x_zret dX13_undo_56 rfl (by omega) ?_
      have wo : ∀ j, j ≠ 58 → h2 o j = h o j := fun j z => by rw [u1 _ (by omega), am_st_i z]
      have wa : ∀ a, a ≠ (o + 37) → a ≠ o → h2 a = h a := fun a z0 z1 => by rw [u1 a z0, am_st_o z1]
      have hfT : MdT L h2 o s (gT g) := a1.fg (fun a i z0 z1 => by rw [wa a (by omega) (by omega)]) (wo _ (by omega))
      have hgS : gS (undoG g) = gH g (n - 1) := by show gH g (gN g - 1) = _; rw [en]
      have hgN : gN (undoG g) = n - 1 := by show gN g - 1 = _; rw [en]
      refine kt (by omega) h2 ⟨⟨hfT, ?_⟩, ⟨by rw [hgN]; exact g58, fun k z0 z1 => ?_⟩, fun i z0 z1 => ?_, ⟨by rw [wo _ (by omega)]; exact d1, fun i z0 z1 => ?_⟩, ⟨by rw [wo _ (by omega)]; exact e1, fun i z0 z1 => ?_⟩, by rw [wo _ (by omega)]; exact f⟩ (fun a z => wa a (by omega) (by omega))
      · rw [hgS]
        exact (b3 (n - 1) (by omega) (by omega)).fr hIk hT fun i z0 z1 => u2 i z0 (by omega)
      · rw [hgN] at z1
        rw [wa (o + 40) (by omega) (by omega)]
        exact b3 k z0 (by omega)
      · rw [wa (o + 51) (by omega) (by omega), wa (o + 52) (by omega) (by omega)]
        exact c i z0 z1
      · rw [wa (o + 48) (by omega) (by omega), wa (o + 49) (by omega) (by omega), wa (o + 50) (by omega) (by omega)]
        exact d2 i z0 z1
      · rw [wa (o + 1) (by omega) (by omega)]
        exact e2 i z0 z1
    · refine x_aload_0 dX13_undo_28 ?_
      refine x_getR dX13_undo_29 fl1629_13 rfl (by first | (exact MdL.k0 (by assumption)) | (assumption)) (by first | (exact MdL.v_now (by assumption)) | (assumption)) ?_
      refine x_iload_1 dX13_undo_32 ?_
      refine x_aload_0 dX13_undo_33 ?_
      refine x_getR dX13_undo_34 fl1633_13 rfl (by first | (exact MdL.k0 (by assumption)) | (assumption)) (by first | (exact MdL.v_history (by assumption)) | (assumption)) ?_
      refine x_sipush dX13_undo_37 rfl ?_
      refine x_aload_0 dX13_undo_40 ?_
      refine x_getI_ dX13_undo_41 fl1632_13 (by first | (exact MdL.k0 (by assumption)) | (assumption)) (fun r41 => ?_)
      rw [g58] at r41 ⊢
      refine x_imul dX13_undo_44 ?_
      refine x_iload_1 dX13_undo_45 ?_
      refine x_iadd dX13_undo_46 ?_
      refine x_iald_ dX13_undo_47 (by first | (exact MdL.k_history (by assumption)) | (assumption)) (by first | (exact MdL.x_history (by assumption) (by omega) (by omega)) | (omega)) (fun r47 => ?_)
      refine x_iast_ dX13_undo_48 (by first | (exact MdL.k_now (by assumption)) | (assumption)) (by first | (exact MdL.x_now (by assumption) (by omega) (by omega)) | (omega)) (by omega) ?_
      refine x_iinc1 dX13_undo_49 rfl ?_
      refine x_goto (tgt := 21) dX13_undo_52 rfl ?_
      refine ih _ (by omega) ⟨fun a ha => by rw [am_st_o ha]; exact u1 a ha, fun j z0 z1 => ?_⟩
      by_cases e : j = i
      · rw [e, am_st_s, u1 _ (by omega), am_st_o (by omega)]
      · rw [am_st_i (by omega)]
        exact u2 j z0 (by omega)
  · refine x_iconst dX13_undo_7 ?_
    refine x_zret dX13_undo_8 rfl (by omega) ?_
    exact kf (by omega)
end UNDO
