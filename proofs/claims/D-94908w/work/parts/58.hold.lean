/-! OPERATIONS: hold, restore -/
set_option maxRecDepth 100000
section HOLD
variable {G : am_G} {d : Nat} {L : am_L} {h h' : am_H} {Q : am_O → am_L → am_H → Prop} {x o s t : Int} {g : Sg} {b q : Int}
def holdG (g : Sg) (i : Int) : Sg := setL g (fun j => if j = i then some (gS g) else gL g j)
def backG (g : Sg) (R : Row) : Sg := setS (setH g 0 (gH g)) R
theorem SgI.hold (hI : SgI g b q) (i : Int) : SgI (holdG g i) b q := by
  obtain ⟨a1, a2, a3, a4, a5, a6, a7, a8⟩ := hI
  refine ⟨a1, a2, a3, a4, fun j R z => ?_, a6, a7, a8⟩
  have z2 : (if j = i then some (gS g) else gL g j) = some R := z
  split at z2
  · cases z2
    exact a2
  · exact a5 j R z2
theorem SgI.back (hI : SgI g b q) {i : Int} {R : Row} (hR : gL g i = some R) : SgI (backG g R) b q := by
  obtain ⟨a1, a2, a3, a4, a5, a6, a7, a8⟩ := hI
  exact ⟨a1, a5 i R hR, ⟨by show (0 : Int) ≤ 0; omega, by show (0 : Int) ≤ 30; omega⟩, fun k z0 z1 => absurd z1 (by show ¬ k < 0; omega), a5, a6, a7, a8⟩
set_option maxHeartbeats 4000000 in
theorem C_X0_hold {i : Int} (hC : CoI L h x t g) (hI : SgI g b q) (hi : rg32 i) (kt : 0 ≤ i ∧ i ≤ 2 → ∀ h', CoI L h' x t (holdG g i) → FX h h' x → Q (.inl [aI 1]) L h') (kf : ¬ (0 ≤ i ∧ i ≤ 2) → Q (.inl [aI 0]) L h) : am_C G mX0_hold (d + 430) [aR x, aI i] L h Q := by
  have hC0 := hC
  obtain ⟨a1, ⟨b1, b2, b3⟩, c, ⟨d1, d2⟩, ⟨e1, e2⟩, f⟩ := hC
  have hT := hI.1
  have hK := a1.mk
  have hcl := a1.cl
  refine x_start okX0_hold rfl rfl rfl rfl ?_
  refine x_iload_1 dX0_hold_0 ?_
  refine x_iconst dX0_hold_1 ?_
  refine x_iconst dX0_hold_2 ?_
  refine x_callS3 dX0_hold_3 rfl okX0_isIn q1201 q1202 rfl (C_X0_isIn hi ⟨by decide, by decide⟩ ⟨by decide, by decide⟩ (x_k1 ?_))
  refine x_if_ne (tgt := 11) dX0_hold_6 rfl (by split <;> omega) (fun c6 => ?_) (fun c6 => ?_)
  · have hi1 : 0 ≤ i ∧ i ≤ 2 := by split at c6 <;> omega
    have hsc := hK.scl (k := i) hi1.1 (by omega)
    refine x_aload_0 dX0_hold_11 ?_
    refine x_getR dX0_hold_12 fl581_0 rfl (by first | (exact MkL.k0 (by assumption)) | (assumption)) (by first | (exact MkL.v_slots (by assumption)) | (assumption)) ?_
    refine x_iload_1 dX0_hold_15 ?_
    refine x_aald dX0_hold_16 (by first | (exact MkL.k_slots (by assumption)) | (assumption)) (by decide) (by decide) (by first | (exact MkL.x_slots (by assumption) (by omega) (by omega)) | (omega)) (by first | (exact MkL.e_slots (by assumption) (by omega) (by omega)) | (assumption)) ?_
    refine x_aload_0 dX0_hold_17 ?_
    refine x_getR dX0_hold_18 fl578_0 rfl (by first | (exact MkL.k0 (by assumption)) | (assumption)) (by first | (exact MkL.v_cloth (by assumption)) | (assumption)) ?_
    refine x_callV1 dX0_hold_21 rfl okX5_takes q1237 q1238 q1239 (by first | assumption | (exact ClL.k0 (by assumption))) am_k5 rfl (C_X5_takes a1.rc hsc hI.2.1 hT (by omega) (fun h1 hr1 hf1 => (x_k0 ?_)))
    refine x_aload_0 dX0_hold_24 ?_
    refine x_getR dX0_hold_25 fl583_0 rfl (by first | (exact MkL.k0 (by assumption)) | (assumption)) (by first | (exact MkL.v_held (by assumption)) | (assumption)) ?_
    refine x_iload_1 dX0_hold_28 ?_
    refine x_iconst dX0_hold_29 ?_
    refine x_zast_ dX0_hold_30 (by first | (exact MkL.k_held (by assumption)) | (assumption)) (by first | (exact MkL.x_held (by assumption) (by omega) (by omega)) | (omega)) (by omega) ?_
    refine x_iconst dX0_hold_31 ?_
    refine x_zret dX0_hold_32 rfl (by omega) ?_
    have fa : ∀ a, a ≠ x + 180 → (a < x + 81 + 31 * i ∨ x + 81 + 31 * i + 31 ≤ a) → am_st h1 (x + 180) i 1 a = h a := fun a z0 z1 => by rw [am_st_o z0]; exact hf1 a z1
    have fp : ∀ a, a ≠ x + 180 → am_st h1 (x + 180) i 1 a = h1 a := fun a z0 => am_st_o z0
    have f1 : am_st h1 (x + 180) i 1 (x + 180) i = 1 := am_st_s
    have f2 : ∀ j, j ≠ i → am_st h1 (x + 180) i 1 (x + 180) j = h (x + 180) j := fun j z => by rw [am_st_i z, hf1 _ (by omega)]
    generalize am_st h1 (x + 180) i 1 = h2 at *
    refine kt hi1 h2 ⟨⟨a1.1, by rw [fa x (by omega) (by omega)]; exact a1.ht, a1.tx, a1.rc.fr fun a z0 z1 => fa a (by omega) (by omega)⟩, ⟨by rw [fa x (by omega) (by omega)]; exact b1, by rw [fa x (by omega) (by omega)]; exact b2, fun k z0 z1 => ?_⟩, fun j z0 z1 => ?_, ⟨by rw [fa x (by omega) (by omega)]; exact d1, fun j z0 z1 => ?_⟩, ⟨by rw [fa (x + 2) (by omega) (by omega)]; exact e1, fun j z0 z1 => ?_⟩, by rw [fa x (by omega) (by omega)]; exact f⟩ (fun a z => fa a (by omega) (by omega))
    · rw [fa x (by omega) (by omega)]
      have := pcA_rg (x := x) (u := h x 6) (n := gN g) (k := k)
      exact (b3 k z0 z1).fr fun a z2 z3 => fa a (by omega) (by omega)
    · by_cases e : j = i
      · subst e
        exact Or.inr ⟨gS g, if_pos rfl, f1, hr1.fr fun a z2 z3 => fp a (by omega)⟩
      · show ((if j = i then some (gS g) else gL g j) = none ∧ _) ∨ ∃ R, (if j = i then some (gS g) else gL g j) = some R ∧ _
        rw [if_neg e, f2 j e]
        rcases c j z0 z1 with z | ⟨R, z2, z3, z4⟩
        · exact Or.inl z
        · exact Or.inr ⟨R, z2, z3, z4.fr fun a y0 y1 => fa a (by omega) (by omega)⟩
    · rw [fa (x + 271) (by omega) (by omega), fa (x + 272) (by omega) (by omega), fa (x + 274) (by omega) (by omega)]
      exact d2 j z0 z1
    · rw [fa (x + 4) (by omega) (by omega)]
      exact e2 j z0 z1
  · refine x_iconst dX0_hold_9 ?_
    refine x_zret dX0_hold_10 rfl (by omega) ?_
    refine kf (fun z => ?_)
    rw [if_pos z] at c6
    exact absurd c6 (by decide)
set_option maxHeartbeats 4000000 in
theorem C_X0_restore {i : Int} (hC : CoI L h x t g) (hI : SgI g b q) (hi : rg32 i) (kt : ∀ R, 0 ≤ i ∧ i ≤ 2 → gL g i = some R → ∀ h', CoI L h' x t (backG g R) → FX h h' x → Q (.inl [aI 1]) L h') (kf : ¬ (0 ≤ i ∧ i ≤ 2) ∨ gL g i = none → Q (.inl [aI 0]) L h) : am_C G mX0_restore (d + 430) [aR x, aI i] L h Q := by
  have hC0 := hC
  obtain ⟨a1, ⟨b1, b2, b3⟩, c, ⟨d1, d2⟩, ⟨e1, e2⟩, f⟩ := hC
  have hT := hI.1
  have hK := a1.mk
  have hcl := a1.cl
  refine x_start okX0_restore rfl rfl rfl rfl ?_
  refine x_iload_1 dX0_restore_0 ?_
  refine x_iconst dX0_restore_1 ?_
  refine x_iconst dX0_restore_2 ?_
  refine x_callS3 dX0_restore_3 rfl okX0_isIn q1201 q1202 rfl (C_X0_isIn hi ⟨by decide, by decide⟩ ⟨by decide, by decide⟩ (x_k1 ?_))
  refine x_if_eq (tgt := 18) dX0_restore_6 rfl (by split <;> omega) (fun c6 => ?_) (fun c6 => ?_)
  · skip
    refine x_iconst dX0_restore_18 ?_
    refine x_zret dX0_restore_19 rfl (by omega) ?_
    refine kf (Or.inl fun z => ?_)
    rw [if_pos z] at c6
    exact absurd c6 (by decide)
  · have hi1 : 0 ≤ i ∧ i ≤ 2 := by split at c6 <;> omega
    rcases c i hi1.1 (by omega) with ⟨z1, z2⟩ | ⟨R, z1, z2, z3⟩
    · skip
      refine x_aload_0 dX0_restore_9 ?_
      refine x_getR dX0_restore_10 fl583_0 rfl (by first | (exact MkL.k0 (by assumption)) | (assumption)) (by first | (exact MkL.v_held (by assumption)) | (assumption)) ?_
      refine x_iload_1 dX0_restore_13 ?_
      refine x_zald_ dX0_restore_14 (by first | (exact MkL.k_held (by assumption)) | (assumption)) (by first | (exact MkL.x_held (by assumption) (by omega) (by omega)) | (omega)) (fun r14 => ?_)
      rw [z2] at r14 ⊢
      refine x_if_ne (tgt := 20) dX0_restore_15 rfl (by omega) (fun c15 => ?_) (fun c15 => ?_)
      · exact absurd rfl c15
      · skip
        refine x_iconst dX0_restore_18 ?_
        refine x_zret dX0_restore_19 rfl (by omega) ?_
        exact kf (Or.inr z1)
    · have hIR := hI.2.2.2.2.1 i R z1
      have hsc := hK.scl (k := i) hi1.1 (by omega)
      refine x_aload_0 dX0_restore_9 ?_
      refine x_getR dX0_restore_10 fl583_0 rfl (by first | (exact MkL.k0 (by assumption)) | (assumption)) (by first | (exact MkL.v_held (by assumption)) | (assumption)) ?_
      refine x_iload_1 dX0_restore_13 ?_
      refine x_zald_ dX0_restore_14 (by first | (exact MkL.k_held (by assumption)) | (assumption)) (by first | (exact MkL.x_held (by assumption) (by omega) (by omega)) | (omega)) (fun r14 => ?_)
      rw [z2] at r14 ⊢
      refine x_if_ne (tgt := 20) dX0_restore_15 rfl (by omega) (fun c15 => ?_) (fun c15 => ?_)
      · refine x_aload_0 dX0_restore_20 ?_
        refine x_getR dX0_restore_21 fl578_0 rfl (by first | (exact MkL.k0 (by assumption)) | (assumption)) (by first | (exact MkL.v_cloth (by assumption)) | (assumption)) ?_
        refine x_aload_0 dX0_restore_24 ?_
        refine x_getR dX0_restore_25 fl581_0 rfl (by first | (exact MkL.k0 (by assumption)) | (assumption)) (by first | (exact MkL.v_slots (by assumption)) | (assumption)) ?_
        refine x_iload_1 dX0_restore_28 ?_
        refine x_aald dX0_restore_29 (by first | (exact MkL.k_slots (by assumption)) | (assumption)) (by decide) (by decide) (by first | (exact MkL.x_slots (by assumption) (by omega) (by omega)) | (omega)) (by first | (exact MkL.e_slots (by assumption) (by omega) (by omega)) | (assumption)) ?_
        refine x_callV1 dX0_restore_30 rfl okX5_takes q1237 q1238 q1239 (by first | assumption | (exact ClL.k0 (by assumption))) am_k5 rfl (C_X5_takes z3 hcl hIR hT (by omega) (fun h1 hr1 hf1 => (x_k0 ?_)))
        refine x_aload_0 dX0_restore_33 ?_
        refine x_iconst dX0_restore_34 ?_
        refine x_putI_ dX0_restore_35 fl576_0 (by first | (exact MkL.k0 (by assumption)) | (assumption)) (by omega) ?_
        refine x_iconst dX0_restore_38 ?_
        refine x_zret dX0_restore_39 rfl (by omega) ?_
        have fo : ∀ j, j ≠ 5 → am_st h1 x 5 0 x j = h x j := fun j z0 => by rw [am_st_i z0, hf1 x (by omega)]
        have fa : ∀ a, a ≠ x → (a < x + 17 ∨ x + 48 ≤ a) → am_st h1 x 5 0 a = h a := fun a z0 z1 => by rw [am_st_o z0]; exact hf1 a (by omega)
        refine kt R hi1 z1 _ ⟨⟨a1.1, by rw [fo _ (by omega)]; exact a1.ht, a1.tx, hr1.fr fun a y0 y1 => am_st_o (by omega)⟩, ⟨am_st_s, by rw [fo _ (by omega)]; exact b2, fun k y0 y1 => absurd y1 (by show ¬ k < 0; omega)⟩, fun j y0 y1 => ?_, ⟨by rw [fo _ (by omega)]; exact d1, fun j y0 y1 => ?_⟩, ⟨by rw [fa (x + 2) (by omega) (by omega)]; exact e1, fun j y0 y1 => ?_⟩, by rw [fo _ (by omega)]; exact f⟩ (fun a z => fa a (by omega) (by omega))
        · rw [fa (x + 180) (by omega) (by omega)]
          rcases c j y0 y1 with z | ⟨R', z4, z5, z6⟩
          · exact Or.inl z
          · exact Or.inr ⟨R', z4, z5, z6.fr fun a y2 y3 => fa a (by omega) (by omega)⟩
        · rw [fa (x + 271) (by omega) (by omega), fa (x + 272) (by omega) (by omega), fa (x + 274) (by omega) (by omega)]
          exact d2 j y0 y1
        · rw [fa (x + 4) (by omega) (by omega)]
          exact e2 j y0 y1
      · exact absurd c15 (by decide)
end HOLD
