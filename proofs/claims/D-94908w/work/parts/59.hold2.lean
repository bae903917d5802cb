/-! OPERATIONS: hold, restore of the twin -/
set_option maxRecDepth 100000
section HOLD2
variable {G : am_G} {d : Nat} {L : am_L} {h h' : am_H} {Q : am_O → am_L → am_H → Prop} {x o s t : Int} {g : Sg} {b q : Int}
set_option maxHeartbeats 4000000 in
theorem C_X13_hold {i : Int} (hC : TwI L h o s g) (hI : SgI g b q) (hi : rg32 i) (kt : 0 ≤ i ∧ i ≤ 2 → ∀ h', TwI L h' o s (holdG g i) → FO h h' o → Q (.inl [aI 1]) L h') (kf : ¬ (0 ≤ i ∧ i ≤ 2) → Q (.inl [aI 0]) L h) : am_C G mX13_hold (d + 12) [aR o, aI i] L h Q := by
  have hC0 := hC
  obtain ⟨⟨a1, a2⟩, ⟨b1, b3⟩, c, ⟨d1, d2⟩, ⟨e1, e2⟩, f⟩ := hC
  have hL := a1.1
  have hT := hI.1
  refine x_start okX13_hold rfl rfl rfl rfl ?_
  refine x_iload_1 dX13_hold_0 ?_
  refine x_iconst dX13_hold_1 ?_
  refine x_iconst dX13_hold_2 ?_
  refine x_callS3 dX13_hold_3 rfl okX13_in q1931 q1932 rfl (C_X13_in hi ⟨by decide, by decide⟩ ⟨by decide, by decide⟩ (x_k1 ?_))
  refine x_if_ne (tgt := 11) dX13_hold_6 rfl (by split <;> omega) (fun c6 => ?_) (fun c6 => ?_)
  · have hi1 : 0 ≤ i ∧ i ≤ 2 := by split at c6 <;> omega
    refine x_aload_0 dX13_hold_11 ?_
    refine x_getR dX13_hold_12 fl1647_13 rfl (by first | (exact MdL.k0 (by assumption)) | (assumption)) (by first | (exact MdL.v_isHeld (by assumption)) | (assumption)) ?_
    refine x_iload_1 dX13_hold_15 ?_
    refine x_iconst dX13_hold_16 ?_
    refine x_zast_ dX13_hold_17 (by first | (exact MdL.k_isHeld (by assumption)) | (assumption)) (by first | (exact MdL.x_isHeld (by assumption) (by omega) (by omega)) | (omega)) (by omega) ?_
    refine x_iconst dX13_hold_18 ?_
    refine x_istore_2 dX13_hold_19 rfl ?_
    refine x_for 1290 (fun j h2 => (∀ a, a ≠ (o + 52) → h2 a = am_st h (o + 51) i 1 a) ∧ (∀ y, (y < 1290 * i ∨ 1290 * i + j ≤ y) → h2 (o + 52) y = h (o + 52) y) ∧ ∀ y, 0 ≤ y → y < j → h2 (o + 52) (1290 * i + y) = h (o + 37) y) (fun j h2 => am_X G mX13_hold (d + 12) 20 [aR o, aI i, aI j] [] L h2 Q) (fun j h2 g0 g1 hP ih => ?_) _ (by omega) ⟨fun _ _ => rfl, fun y _ => by rw [am_st_o (by omega)], fun y z0 z1 => by omega⟩
    obtain ⟨u1, u2, u3⟩ := hP
    refine x_iload_2 dX13_hold_20 ?_
    refine x_sipush dX13_hold_21 rfl ?_
    refine x_icmp_ge (tgt := 51) dX13_hold_24 rfl (by omega) (by omega) (fun c24 => ?_) (fun c24 => ?_)
    · refine x_iconst dX13_hold_51 ?_
      refine x_zret dX13_hold_52 rfl (by omega) ?_
      have wa : ∀ a, a ≠ (o + 52) → a ≠ (o + 51) → h2 a = h a := fun a z0 z1 => by rw [u1 a z0, am_st_o z1]
      have w1 : h2 (o + 51) i = 1 := by rw [u1 _ (by omega), am_st_s]
      have w2 : ∀ y, y ≠ i → h2 (o + 51) y = h (o + 51) y := fun y z => by rw [u1 _ (by omega), am_st_i z]
      refine kt hi1 h2 ⟨⟨a1.fg (fun a y z0 z1 => by rw [wa a (by omega) (by omega)]) (by rw [wa o (by omega) (by omega)]), by rw [wa (o + 37) (by omega) (by omega)]; exact a2⟩, ⟨by rw [wa o (by omega) (by omega)]; exact b1, fun k z0 z1 => ?_⟩, fun y z0 z1 => ?_, ⟨by rw [wa o (by omega) (by omega)]; exact d1, fun y z0 z1 => ?_⟩, ⟨by rw [wa o (by omega) (by omega)]; exact e1, fun y z0 z1 => ?_⟩, by rw [wa o (by omega) (by omega)]; exact f⟩ (fun a z => wa a (by omega) (by omega))
      · rw [wa (o + 40) (by omega) (by omega)]
        exact b3 k z0 z1
      · by_cases e : y = i
        · subst e
          exact Or.inr ⟨gS g, if_pos rfl, w1, a2.fr hI.2.1 hT fun k y0 y1 => u3 k y0 (by omega)⟩
        · show ((if y = i then some (gS g) else gL g y) = none ∧ _) ∨ ∃ R, (if y = i then some (gS g) else gL g y) = some R ∧ _
          rw [if_neg e, w2 y e]
          rcases c y z0 z1 with z | ⟨R, z2, z3, z4⟩
          · exact Or.inl z
          · exact Or.inr ⟨R, z2, z3, z4.fr (hI.2.2.2.2.1 y R z2) hT fun k y0 y1 => u2 _ (by omega)⟩
      · rw [wa (o + 48) (by omega) (by omega), wa (o + 49) (by omega) (by omega), wa (o + 50) (by omega) (by omega)]
        exact d2 y z0 z1
      · rw [wa (o + 1) (by omega) (by omega)]
        exact e2 y z0 z1
    · refine x_aload_0 dX13_hold_27 ?_
      refine x_getR dX13_hold_28 fl1648_13 rfl (by first | (exact MdL.k0 (by assumption)) | (assumption)) (by first | (exact MdL.v_held (by assumption)) | (assumption)) ?_
      refine x_sipush dX13_hold_31 rfl ?_
      refine x_iload_1 dX13_hold_34 ?_
      refine x_imul dX13_hold_35 ?_
      refine x_iload_2 dX13_hold_36 ?_
      refine x_iadd dX13_hold_37 ?_
      refine x_aload_0 dX13_hold_38 ?_
      refine x_getR dX13_hold_39 fl1629_13 rfl (by first | (exact MdL.k0 (by assumption)) | (assumption)) (by first | (exact MdL.v_now (by assumption)) | (assumption)) ?_
      refine x_iload_2 dX13_hold_42 ?_
      refine x_iald_ dX13_hold_43 (by first | (exact MdL.k_now (by assumption)) | (assumption)) (by first | (exact MdL.x_now (by assumption) (by omega) (by omega)) | (omega)) (fun r43 => ?_)
      refine x_iast_ dX13_hold_44 (by first | (exact MdL.k_held (by assumption)) | (assumption)) (by first | (exact MdL.x_held (by assumption) (by omega) (by omega)) | (omega)) (by omega) ?_
      refine x_iinc2 dX13_hold_45 rfl ?_
      refine x_goto (tgt := 20) dX13_hold_48 rfl ?_
      refine ih _ (by omega) ⟨fun a ha => by rw [am_st_o ha]; exact u1 a ha, fun y z => by rw [am_st_i (by omega)]; exact u2 y (by omega), fun y z0 z1 => ?_⟩
      by_cases e : y = j
      · rw [e, am_st_s, u1 _ (by omega), am_st_o (by omega)]
      · rw [am_st_i (by omega)]
        exact u3 y z0 (by omega)
  · refine x_iconst dX13_hold_9 ?_
    refine x_zret dX13_hold_10 rfl (by omega) ?_
    refine kf (fun z => ?_)
    rw [if_pos z] at c6
    exact absurd c6 (by decide)
set_option maxHeartbeats 4000000 in
theorem C_X13_restore {i : Int} (hC : TwI L h o s g) (hI : SgI g b q) (hi : rg32 i) (kt : ∀ R, 0 ≤ i ∧ i ≤ 2 → gL g i = some R → ∀ h', TwI L h' o s (backG g R) → FO h h' o → Q (.inl [aI 1]) L h') (kf : ¬ (0 ≤ i ∧ i ≤ 2) ∨ gL g i = none → Q (.inl [aI 0]) L h) : am_C G mX13_restore (d + 12) [aR o, aI i] L h Q := by
  have hC0 := hC
  obtain ⟨⟨a1, a2⟩, ⟨b1, b3⟩, c, ⟨d1, d2⟩, ⟨e1, e2⟩, f⟩ := hC
  have hL := a1.1
  have hT := hI.1
  refine x_start okX13_restore rfl rfl rfl rfl ?_
  refine x_iload_1 dX13_restore_0 ?_
  refine x_iconst dX13_restore_1 ?_
  refine x_iconst dX13_restore_2 ?_
  refine x_callS3 dX13_restore_3 rfl okX13_in q1931 q1932 rfl (C_X13_in hi ⟨by decide, by decide⟩ ⟨by decide, by decide⟩ (x_k1 ?_))
  refine x_if_eq (tgt := 18) dX13_restore_6 rfl (by split <;> omega) (fun c6 => ?_) (fun c6 => ?_)
  · skip
    refine x_iconst dX13_restore_18 ?_
    refine x_zret dX13_restore_19 rfl (by omega) ?_
    refine kf (Or.inl fun z => ?_)
    rw [if_pos z] at c6
    exact absurd c6 (by decide)
  · have hi1 : 0 ≤ i ∧ i ≤ 2 := by split at c6 <;> omega
    rcases c i hi1.1 (by omega) with ⟨z1, z2⟩ | ⟨R, z1, z2, z3⟩
    · skip
      refine x_aload_0 dX13_restore_9 ?_
      refine x_getR dX13_restore_10 fl1647_13 rfl (by first | (exact MdL.k0 (by assumption)) | (assumption)) (by first | (exact MdL.v_isHeld (by assumption)) | (assumption)) ?_
      refine x_iload_1 dX13_restore_13 ?_
      refine x_zald_ dX13_restore_14 (by first | (exact MdL.k_isHeld (by assumption)) | (assumption)) (by first | (exact MdL.x_isHeld (by assumption) (by omega) (by omega)) | (omega)) (fun r14 => ?_)
      rw [z2] at r14 ⊢
      refine x_if_ne (tgt := 20) dX13_restore_15 rfl (by omega) (fun c15 => ?_) (fun c15 => ?_)
      · exact absurd rfl c15
      · skip
        refine x_iconst dX13_restore_18 ?_
        refine x_zret dX13_restore_19 rfl (by omega) ?_
        exact kf (Or.inr z1)
    · have hIR := hI.2.2.2.2.1 i R z1
      refine x_aload_0 dX13_restore_9 ?_
      refine x_getR dX13_restore_10 fl1647_13 rfl (by first | (exact MdL.k0 (by assumption)) | (assumption)) (by first | (exact MdL.v_isHeld (by assumption)) | (assumption)) ?_
      refine x_iload_1 dX13_restore_13 ?_
      refine x_zald_ dX13_restore_14 (by first | (exact MdL.k_isHeld (by assumption)) | (assumption)) (by first | (exact MdL.x_isHeld (by assumption) (by omega) (by omega)) | (omega)) (fun r14 => ?_)
      rw [z2] at r14 ⊢
      refine x_if_ne (tgt := 20) dX13_restore_15 rfl (by omega) (fun c15 => ?_) (fun c15 => ?_)
      · refine x_iconst dX13_restore_20 ?_
        refine x_istore_2 dX13_restore_21 rfl ?_
        refine x_for 1290 (fun j h2 => (∀ a, a ≠ (o + 37) → h2 a = h a) ∧ ∀ y, 0 ≤ y → y < j → h2 (o + 37) y = h (o + 52) (1290 * i + y)) (fun j h2 => am_X G mX13_restore (d + 12) 22 [aR o, aI i, aI j] [] L h2 Q) (fun j h2 g0 g1 hP ih => ?_) h (by omega) ⟨fun _ _ => rfl, fun y z0 z1 => by omega⟩
        obtain ⟨u1, u3⟩ := hP
        refine x_iload_2 dX13_restore_22 ?_
        refine x_sipush dX13_restore_23 rfl ?_
        refine x_icmp_ge (tgt := 53) dX13_restore_26 rfl (by omega) (by omega) (fun c26 => ?_) (fun c26 => ?_)
        · refine x_aload_0 dX13_restore_53 ?_
          refine x_iconst dX13_restore_54 ?_
          refine x_putI_ dX13_restore_55 fl1632_13 (by first | (exact MdL.k0 (by assumption)) | (assumption)) (by omega) ?_
          refine x_iconst dX13_restore_58 ?_
          refine x_zret dX13_restore_59 rfl (by omega) ?_
          have wo : ∀ y, y ≠ 58 → am_st h2 o 58 0 o y = h o y := fun y z => by rw [am_st_i z, u1 o (by omega)]
          have wa : ∀ a, a ≠ (o + 37) → a ≠ o → am_st h2 o 58 0 a = h a := fun a z0 z1 => by rw [am_st_o z1, u1 a z0]
          refine kt R hi1 z1 _ ⟨⟨a1.fg (fun a y y0 y1 => by rw [wa a (by omega) (by omega)]) (wo _ (by omega)), ?_⟩, ⟨am_st_s, fun k y0 y1 => absurd y1 (by show ¬ k < 0; omega)⟩, fun y y0 y1 => ?_, ⟨by rw [wo _ (by omega)]; exact d1, fun y y0 y1 => ?_⟩, ⟨by rw [wo _ (by omega)]; exact e1, fun y y0 y1 => ?_⟩, by rw [wo _ (by omega)]; exact f⟩ (fun a z => wa a (by omega) (by omega))
          · refine z3.fr hIR hT fun k y0 y1 => ?_
            rw [am_st_o (by omega)]
            exact u3 k y0 (by omega)
          · rw [wa (o + 51) (by omega) (by omega), wa (o + 52) (by omega) (by omega)]
            exact c y y0 y1
          · rw [wa (o + 48) (by omega) (by omega), wa (o + 49) (by omega) (by omega), wa (o + 50) (by omega) (by omega)]
            exact d2 y y0 y1
          · rw [wa (o + 1) (by omega) (by omega)]
            exact e2 y y0 y1
        · refine x_aload_0 dX13_restore_29 ?_
          refine x_getR dX13_restore_30 fl1629_13 rfl (by first | (exact MdL.k0 (by assumption)) | (assumption)) (by first | (exact MdL.v_now (by assumption)) | (assumption)) ?_
          refine x_iload_2 dX13_restore_33 ?_
          refine x_aload_0 dX13_restore_34 ?_
          refine x_getR dX13_restore_35 fl1648_13 rfl (by first | (exact MdL.k0 (by assumption)) | (assumption)) (by first | (exact MdL.v_held (by assumption)) | (assumption)) ?_
          refine x_sipush dX13_restore_38 rfl ?_
          refine x_iload_1 dX13_restore_41 ?_
          refine x_imul dX13_restore_42 ?_
          refine x_iload_2 dX13_restore_43 ?_
          refine x_iadd dX13_restore_44 ?_
          refine x_iald_ dX13_restore_45 (by first | (exact MdL.k_held (by assumption)) | (assumption)) (by first | (exact MdL.x_held (by assumption) (by omega) (by omega)) | (omega)) (fun r45 => ?_)
          refine x_iast_ dX13_restore_46 (by first | (exact MdL.k_now (by assumption)) | (assumption)) (by first | (exact MdL.x_now (by assumption) (by omega) (by omega)) | (omega)) (by omega) ?_
          refine x_iinc2 dX13_restore_47 rfl ?_
          refine x_goto (tgt := 22) dX13_restore_50 rfl ?_
          refine ih _ (by omega) ⟨fun a ha => by rw [am_st_o ha]; exact u1 a ha, fun y z0 z1 => ?_⟩
          by_cases e : y = j
          · rw [e, am_st_s, u1 _ (by omega)]
          · rw [am_st_i (by omega)]
            exact u3 y z0 (by omega)
      · exact absurd c15 (by decide)
theorem C_X0_place (hC : CoI L h x t g) (k : Q (.inl [aI (gP g)]) L h) : am_C G mX0_place (d + 430) [aR x] L h Q := by
  have hK := hC.1.mk
  have f := hC.2.2.2.2.2
  refine x_start okX0_place rfl rfl rfl rfl ?_
  refine x_aload_0 dX0_place_0 ?_
  refine x_getI_ dX0_place_1 fl575_0 (by first | (exact MkL.k0 (by assumption)) | (assumption)) (fun r1 => ?_)
  rw [f] at r1 ⊢
  refine x_iret dX0_place_4 rfl ?_
  exact k
theorem C_X13_place (hC : TwI L h o s g) (k : Q (.inl [aI (gP g)]) L h) : am_C G mX13_place (d + 12) [aR o] L h Q := by
  have hL := hC.1.1.1
  have f := hC.2.2.2.2.2
  refine x_start okX13_place rfl rfl rfl rfl ?_
  refine x_aload_0 dX13_place_0 ?_
  refine x_getI_ dX13_place_1 fl1591_13 (by first | (exact MdL.k0 (by assumption)) | (assumption)) (fun r1 => ?_)
  rw [f] at r1 ⊢
  refine x_iret dX13_place_4 rfl ?_
  exact k
end HOLD2
