/-! OPERATIONS: tell, forget -/
set_option maxRecDepth 100000
section TELL
variable {G : am_G} {d : Nat} {L : am_L} {h h' : am_H} {Q : am_O → am_L → am_H → Prop} {x o s t : Int} {g : Sg} {b q : Int}
theorem CoI.told (r : CoI L h x t g) {n : Int} {M O V : Int → Int} (h1 : ∀ i, i ≠ 20 → h' x i = h x i) (h2 : ∀ a, a ≠ x → a ≠ x + 271 → a ≠ x + 272 → a ≠ x + 274 → h' a = h a)
    (hd : h' x 20 = n ∧ ∀ i, 0 ≤ i → i < n → h' (x + 271) i = M i ∧ h' (x + 272) i = O i ∧ h' (x + 274) i = V i) : CoI L h' x t (setK g n M O V) := by
  obtain ⟨⟨a1, a2, a3, a4⟩, ⟨b1, b2, b3⟩, c, -, ⟨e1, e2⟩, f⟩ := r
  refine ⟨⟨a1, by rw [h1 _ (by omega)]; exact a2, a3, a4.fr fun a z0 z1 => h2 a (by omega) (by omega) (by omega) (by omega)⟩, ⟨by rw [h1 _ (by omega)]; exact b1, by rw [h1 _ (by omega)]; exact b2, fun k z0 z1 => ?_⟩, fun i z0 z1 => ?_, hd, ⟨by rw [h2 (x + 2) (by omega) (by omega) (by omega) (by omega)]; exact e1, fun i z0 z1 => ?_⟩, by rw [h1 _ (by omega)]; exact f⟩
  · rw [h1 _ (by omega)]
    have := pcA_rg (x := x) (u := h x 6) (n := gN g) (k := k)
    exact (b3 k z0 z1).fr fun a z2 z3 => h2 a (by omega) (by omega) (by omega) (by omega)
  · rw [h2 (x + 180) (by omega) (by omega) (by omega) (by omega)]
    rcases c i z0 z1 with z | ⟨R, z2, z3, z4⟩
    · exact Or.inl z
    · exact Or.inr ⟨R, z2, z3, z4.fr fun a z2 z3 => h2 a (by omega) (by omega) (by omega) (by omega)⟩
  · rw [h2 (x + 4) (by omega) (by omega) (by omega) (by omega)]
    exact e2 i z0 z1
theorem TwI.told (r : TwI L h o s g) {n : Int} {M O V : Int → Int} (h1 : ∀ i, i ≠ 69 → h' o i = h o i) (h2 : ∀ a, a ≠ o → a ≠ (o + 48) → a ≠ (o + 49) → a ≠ (o + 50) → h' a = h a)
    (hd : h' o 69 = n ∧ ∀ i, 0 ≤ i → i < n → h' (o + 48) i = M i ∧ h' (o + 49) i = O i ∧ h' (o + 50) i = V i) : TwI L h' o s (setK g n M O V) := by
  obtain ⟨⟨a1, a2⟩, ⟨b1, b3⟩, c, -, ⟨e1, e2⟩, f⟩ := r
  have wa : ∀ a, o < a → a < (o + 48) → h' a = h a := fun a z0 z1 => h2 a (by omega) (by omega) (by omega) (by omega)
  refine ⟨⟨a1.fg (fun a i z0 z1 => by rw [wa a (by omega) (by omega)]) (h1 _ (by omega)), by rw [wa (o + 37) (by omega) (by omega)]; exact a2⟩, ⟨by rw [h1 _ (by omega)]; exact b1, fun k z0 z1 => ?_⟩, fun i z0 z1 => ?_, hd, ⟨by rw [h1 _ (by omega)]; exact e1, fun i z0 z1 => ?_⟩, by rw [h1 _ (by omega)]; exact f⟩
  · rw [wa (o + 40) (by omega) (by omega)]
    exact b3 k z0 z1
  · rw [h2 (o + 51) (by omega) (by omega) (by omega) (by omega), h2 (o + 52) (by omega) (by omega) (by omega) (by omega)]
    exact c i z0 z1
  · rw [wa (o + 1) (by omega) (by omega)]
    exact e2 i z0 z1
def okTell (g : Sg) (m n : Int) : Prop := ((0 ≤ m ∧ m < tM (gT g)) ∧ (0 ≤ n ∧ n < tM (gT g)) ∧ m ≠ n) ∧ gK g ≠ 12
def tellG (g : Sg) (m n v : Int) : Sg := setK g (gK g + 1) (up1 (gM g) (gK g) m) (up1 (gO g) (gK g) n) (up1 (gV g) (gK g) v)
theorem SgI.tell (hI : SgI g b q) {m n v : Int} (ho : okTell g m n) (hv : 0 ≤ v ∧ v ≤ 1) : SgI (tellG g m n v) b q := by
  obtain ⟨a1, a2, a3, a4, a5, a6, a7, a8⟩ := hI
  have h12 := ho.2
  refine ⟨a1, a2, a3, a4, a5, ?_, fun i z0 z1 => ?_, a8⟩
  · show 0 ≤ gK g + 1 ∧ gK g + 1 ≤ 12
    omega
  · have z2 : i < gK g + 1 := z1
    show ((0 ≤ up1 (gM g) (gK g) m i ∧ up1 (gM g) (gK g) m i < _) ∧ (0 ≤ up1 (gO g) (gK g) n i ∧ up1 (gO g) (gK g) n i < _) ∧ up1 (gM g) (gK g) m i ≠ up1 (gO g) (gK g) n i) ∧ 0 ≤ up1 (gV g) (gK g) v i ∧ up1 (gV g) (gK g) v i ≤ 1
    unfold up1
    by_cases e : i = gK g
    · simp only [if_pos e]
      exact ⟨ho.1, hv⟩
    · simp only [if_neg e]
      exact a7 i z0 (by omega)
theorem SgI.forget (hI : SgI g b q) : SgI (setK g 0 (gM g) (gO g) (gV g)) b q := by
  obtain ⟨a1, a2, a3, a4, a5, a6, a7, a8⟩ := hI
  exact ⟨a1, a2, a3, a4, a5, ⟨by show (0 : Int) ≤ 0; omega, by show (0 : Int) ≤ 12; omega⟩, fun i z0 z1 => absurd z1 (by show ¬ i < 0; omega), a8⟩
set_option maxHeartbeats 4000000 in
theorem C_X0_tell {m n v : Int} (hC : CoI L h x t g) (hI : SgI g b q) (hm : rg32 m) (hn : rg32 n) (hv : 0 ≤ v ∧ v ≤ 1) (kt : okTell g m n → ∀ h', CoI L h' x t (tellG g m n v) → FX h h' x → Q (.inl [aI (gK g)]) L h') (kf : ¬ okTell g m n → Q (.inl [aI (-1)]) L h) : am_C G mX0_tell (d + 430) [aR x, aI m, aI n, aI v] L h Q := by
  have hT := hI.1
  have hcT := hC.1
  have hK := hcT.mk
  have hk := hI.2.2.2.2.2.1
  obtain ⟨d1, d2⟩ := hC.2.2.2.1
  refine x_start okX0_tell rfl rfl rfl rfl ?_
  refine x_aload_0 dX0_tell_0 ?_
  refine x_iload_1 dX0_tell_1 ?_
  refine x_iload_2 dX0_tell_2 ?_
  refine x_callV2 dX0_tell_3 rfl okX0_areTwo q1307 q1309 qs35 (by first | assumption | (exact MkL.k0 (by assumption))) am_k0 rfl (C_X0_areTwo hcT hT hm hn (x_k1 ?_))
  refine x_if_eq (tgt := 18) dX0_tell_6 rfl (by split <;> omega) (fun c6 => ?_) (fun c6 => ?_)
  · skip
    refine x_iconst dX0_tell_18 ?_
    refine x_iret dX0_tell_19 rfl ?_
    refine kf (fun z => ?_)
    first | (have := z.2; omega) | (rw [if_pos z.1] at c6; exact absurd c6 (by decide))
  · refine x_aload_0 dX0_tell_9 ?_
    refine x_getI_ dX0_tell_10 fl591_0 (by first | (exact MkL.k0 (by assumption)) | (assumption)) (fun r10 => ?_)
    simp (disch := omega) only [am_st_o, d1] at r10 ⊢
    refine x_bipush dX0_tell_13 rfl ?_
    refine x_icmp_ne (tgt := 20) dX0_tell_15 rfl (by omega) (by omega) (fun c15 => ?_) (fun c15 => ?_)
    · refine x_aload_0 dX0_tell_20 ?_
      refine x_getR dX0_tell_21 fl592_0 rfl (by first | (exact MkL.k0 (by assumption)) | (assumption)) (by first | (exact MkL.v_toldMan (by assumption)) | (assumption)) ?_
      refine x_aload_0 dX0_tell_24 ?_
      refine x_getI_ dX0_tell_25 fl591_0 (by first | (exact MkL.k0 (by assumption)) | (assumption)) (fun r25 => ?_)
      simp (disch := omega) only [am_st_o, d1] at r25 ⊢
      refine x_iload_1 dX0_tell_28 ?_
      refine x_iast_ dX0_tell_29 (by first | (exact MkL.k_toldMan (by assumption)) | (assumption)) (by first | (exact MkL.x_toldMan (by assumption) (by omega) (by omega)) | (omega)) (by omega) ?_
      refine x_aload_0 dX0_tell_30 ?_
      refine x_getR dX0_tell_31 fl593_0 rfl (by first | (exact MkL.k0 (by assumption)) | (assumption)) (by first | (exact MkL.v_toldOther (by assumption)) | (assumption)) ?_
      refine x_aload_0 dX0_tell_34 ?_
      refine x_getI_ dX0_tell_35 fl591_0 (by first | (exact MkL.k0 (by assumption)) | (assumption)) (fun r35 => ?_)
      simp (disch := omega) only [am_st_o, d1] at r35 ⊢
      refine x_iload_2 dX0_tell_38 ?_
      refine x_iast_ dX0_tell_39 (by first | (exact MkL.k_toldOther (by assumption)) | (assumption)) (by first | (exact MkL.x_toldOther (by assumption) (by omega) (by omega)) | (omega)) (by omega) ?_
      refine x_aload_0 dX0_tell_40 ?_
      refine x_getR dX0_tell_41 fl595_0 rfl (by first | (exact MkL.k0 (by assumption)) | (assumption)) (by first | (exact MkL.v_toldOver (by assumption)) | (assumption)) ?_
      refine x_aload_0 dX0_tell_44 ?_
      refine x_getI_ dX0_tell_45 fl591_0 (by first | (exact MkL.k0 (by assumption)) | (assumption)) (fun r45 => ?_)
      simp (disch := omega) only [am_st_o, d1] at r45 ⊢
      refine x_iload_3 dX0_tell_48 ?_
      refine x_zast_ dX0_tell_49 (by first | (exact MkL.k_toldOver (by assumption)) | (assumption)) (by first | (exact MkL.x_toldOver (by assumption) (by omega) (by omega)) | (omega)) (by omega) ?_
      refine x_aload_0 dX0_tell_50 ?_
      refine x_dup dX0_tell_51 rfl ?_
      refine x_getI_ dX0_tell_52 fl591_0 (by first | (exact MkL.k0 (by assumption)) | (assumption)) (fun r52 => ?_)
      simp (disch := omega) only [am_st_o, d1] at r52 ⊢
      refine x_iconst dX0_tell_55 ?_
      refine x_iadd dX0_tell_56 ?_
      refine x_putI_ dX0_tell_57 fl591_0 (by first | (exact MkL.k0 (by assumption)) | (assumption)) (by omega) ?_
      refine x_aload_0 dX0_tell_60 ?_
      refine x_getI_ dX0_tell_61 fl591_0 (by first | (exact MkL.k0 (by assumption)) | (assumption)) (fun r61 => ?_)
      rw [am_st_s] at r61 ⊢
      refine x_iconst dX0_tell_64 ?_
      refine x_isub dX0_tell_65 ?_
      refine x_iret dX0_tell_66 rfl ?_
      have h2 : (0 ≤ m ∧ m < tM (gT g)) ∧ (0 ≤ n ∧ n < tM (gT g)) ∧ m ≠ n := by split at c6 <;> first | assumption | omega
      refine x_q1 (show gK g + 1 - 1 = gK g by omega) (kt ⟨h2, by omega⟩ _ (hC.told (fun i z => ?_) (fun a z0 z1 z2 z3 => ?_) ⟨am_st_s, fun i z0 z1 => ?_⟩) (fun a z => ?_))
      · simp (disch := omega) only [am_st_o, am_st_i]
      · simp (disch := omega) only [am_st_o]
      · unfold up1
        by_cases e : i = gK g
        · rw [if_pos e, if_pos e, if_pos e, e]
          simp (disch := omega) only [am_st_o, am_st_s]
          exact ⟨trivial, trivial, trivial⟩
        · rw [if_neg e, if_neg e, if_neg e]
          simp (disch := omega) only [am_st_o, am_st_i]
          exact d2 i z0 (by omega)
      · simp (disch := omega) only [am_st_o]
    · skip
      refine x_iconst dX0_tell_18 ?_
      refine x_iret dX0_tell_19 rfl ?_
      refine kf (fun z => ?_)
      first | (have := z.2; omega) | (rw [if_pos z.1] at c6; exact absurd c6 (by decide))
set_option maxHeartbeats 4000000 in
theorem C_X13_tell {m n v : Int} (hC : TwI L h o s g) (hI : SgI g b q) (hm : rg32 m) (hn : rg32 n) (hv : 0 ≤ v ∧ v ≤ 1) (kt : okTell g m n → ∀ h', TwI L h' o s (tellG g m n v) → FO h h' o → Q (.inl [aI (gK g)]) L h') (kf : ¬ okTell g m n → Q (.inl [aI (-1)]) L h) : am_C G mX13_tell (d + 12) [aR o, aI m, aI n, aI v] L h Q := by
  have hT := hI.1
  have hM := hC.1.1
  have hL := hM.1
  have hk := hI.2.2.2.2.2.1
  obtain ⟨d1, d2⟩ := hC.2.2.2.1
  refine x_start okX13_tell rfl rfl rfl rfl ?_
  refine x_aload_0 dX13_tell_0 ?_
  refine x_getI_ dX13_tell_1 fl1643_13 (by first | (exact MdL.k0 (by assumption)) | (assumption)) (fun r1 => ?_)
  simp (disch := omega) only [am_st_o, d1] at r1 ⊢
  refine x_bipush dX13_tell_4 rfl ?_
  refine x_icmp_eq (tgt := 18) dX13_tell_6 rfl (by omega) (by omega) (fun c6 => ?_) (fun c6 => ?_)
  · skip
    refine x_iconst dX13_tell_18 ?_
    refine x_iret dX13_tell_19 rfl ?_
    refine kf (fun z => ?_)
    first | (have := z.2; omega) | (rw [if_pos z.1] at c15; exact absurd c15 (by decide))
  · refine x_aload_0 dX13_tell_9 ?_
    refine x_iload_1 dX13_tell_10 ?_
    refine x_iload_2 dX13_tell_11 ?_
    refine x_callV2 dX13_tell_12 rfl okX13_areTwo q2034 q2036 qs93 (by first | assumption | (exact MdL.k0 (by assumption))) am_k13 rfl (C_X13_areTwo hM hT hm hn (x_k1 ?_))
    refine x_if_ne (tgt := 20) dX13_tell_15 rfl (by split <;> omega) (fun c15 => ?_) (fun c15 => ?_)
    · refine x_aload_0 dX13_tell_20 ?_
      refine x_getR dX13_tell_21 fl1644_13 rfl (by first | (exact MdL.k0 (by assumption)) | (assumption)) (by first | (exact MdL.v_toldMan (by assumption)) | (assumption)) ?_
      refine x_aload_0 dX13_tell_24 ?_
      refine x_getI_ dX13_tell_25 fl1643_13 (by first | (exact MdL.k0 (by assumption)) | (assumption)) (fun r25 => ?_)
      simp (disch := omega) only [am_st_o, d1] at r25 ⊢
      refine x_iload_1 dX13_tell_28 ?_
      refine x_iast_ dX13_tell_29 (by first | (exact MdL.k_toldMan (by assumption)) | (assumption)) (by first | (exact MdL.x_toldMan (by assumption) (by omega) (by omega)) | (omega)) (by omega) ?_
      refine x_aload_0 dX13_tell_30 ?_
      refine x_getR dX13_tell_31 fl1645_13 rfl (by first | (exact MdL.k0 (by assumption)) | (assumption)) (by first | (exact MdL.v_toldOther (by assumption)) | (assumption)) ?_
      refine x_aload_0 dX13_tell_34 ?_
      refine x_getI_ dX13_tell_35 fl1643_13 (by first | (exact MdL.k0 (by assumption)) | (assumption)) (fun r35 => ?_)
      simp (disch := omega) only [am_st_o, d1] at r35 ⊢
      refine x_iload_2 dX13_tell_38 ?_
      refine x_iast_ dX13_tell_39 (by first | (exact MdL.k_toldOther (by assumption)) | (assumption)) (by first | (exact MdL.x_toldOther (by assumption) (by omega) (by omega)) | (omega)) (by omega) ?_
      refine x_aload_0 dX13_tell_40 ?_
      refine x_getR dX13_tell_41 fl1646_13 rfl (by first | (exact MdL.k0 (by assumption)) | (assumption)) (by first | (exact MdL.v_toldOver (by assumption)) | (assumption)) ?_
      refine x_aload_0 dX13_tell_44 ?_
      refine x_getI_ dX13_tell_45 fl1643_13 (by first | (exact MdL.k0 (by assumption)) | (assumption)) (fun r45 => ?_)
      simp (disch := omega) only [am_st_o, d1] at r45 ⊢
      refine x_iload_3 dX13_tell_48 ?_
      refine x_zast_ dX13_tell_49 (by first | (exact MdL.k_toldOver (by assumption)) | (assumption)) (by first | (exact MdL.x_toldOver (by assumption) (by omega) (by omega)) | (omega)) (by omega) ?_
      refine x_aload_0 dX13_tell_50 ?_
      refine x_dup dX13_tell_51 rfl ?_
      refine x_getI_ dX13_tell_52 fl1643_13 (by first | (exact MdL.k0 (by assumption)) | (assumption)) (fun r52 => ?_)
      simp (disch := omega) only [am_st_o, d1] at r52 ⊢
      refine x_iconst dX13_tell_55 ?_
      refine x_iadd dX13_tell_56 ?_
      refine x_putI_ dX13_tell_57 fl1643_13 (by first | (exact MdL.k0 (by assumption)) | (assumption)) (by omega) ?_
      refine x_aload_0 dX13_tell_60 ?_
      refine x_getI_ dX13_tell_61 fl1643_13 (by first | (exact MdL.k0 (by assumption)) | (assumption)) (fun r61 => ?_)
      rw [am_st_s] at r61 ⊢
      refine x_iconst dX13_tell_64 ?_
      refine x_isub dX13_tell_65 ?_
      refine x_iret dX13_tell_66 rfl ?_
      have h2 : (0 ≤ m ∧ m < tM (gT g)) ∧ (0 ≤ n ∧ n < tM (gT g)) ∧ m ≠ n := by split at c15 <;> first | assumption | omega
      refine x_q1 (show gK g + 1 - 1 = gK g by omega) (kt ⟨h2, by omega⟩ _ (hC.told (fun i z => ?_) (fun a z0 z1 z2 z3 => ?_) ⟨am_st_s, fun i z0 z1 => ?_⟩) (fun a z => ?_))
      · simp (disch := omega) only [am_st_o, am_st_i]
      · simp (disch := omega) only [am_st_o]
      · unfold up1
        by_cases e : i = gK g
        · rw [if_pos e, if_pos e, if_pos e, e]
          simp (disch := omega) only [am_st_o, am_st_s]
          exact ⟨trivial, trivial, trivial⟩
        · rw [if_neg e, if_neg e, if_neg e]
          simp (disch := omega) only [am_st_o, am_st_i]
          exact d2 i z0 (by omega)
      · simp (disch := omega) only [am_st_o]
    · skip
      refine x_iconst dX13_tell_18 ?_
      refine x_iret dX13_tell_19 rfl ?_
      refine kf (fun z => ?_)
      first | (have := z.2; omega) | (rw [if_pos z.1] at c15; exact absurd c15 (by decide))
theorem C_X0_forget (hC : CoI L h x t g) (hI : SgI g b q) (k : ∀ h', CoI L h' x t (setK g 0 (gM g) (gO g) (gV g)) → FX h h' x → Q (.inl [aI (gK g)]) L h') : am_C G mX0_forget (d + 430) [aR x] L h Q := by
  have hK := hC.1.mk
  obtain ⟨d1, d2⟩ := hC.2.2.2.1
  refine x_start okX0_forget rfl rfl rfl rfl ?_
  refine x_aload_0 dX0_forget_0 ?_
  refine x_getI_ dX0_forget_1 fl591_0 (by first | (exact MkL.k0 (by assumption)) | (assumption)) (fun r1 => ?_)
  rw [d1] at r1 ⊢
  refine x_istore_1 dX0_forget_4 rfl ?_
  refine x_aload_0 dX0_forget_5 ?_
  refine x_iconst dX0_forget_6 ?_
  refine x_putI_ dX0_forget_7 fl591_0 (by first | (exact MkL.k0 (by assumption)) | (assumption)) (by omega) ?_
  refine x_iload_1 dX0_forget_10 ?_
  refine x_iret dX0_forget_11 rfl ?_
  exact k _ (hC.told (fun i z => am_st_i z) (fun a z0 _ _ _ => am_st_o z0) ⟨am_st_s, fun i z0 z1 => by omega⟩) (fun a z => am_st_o (by omega))
theorem C_X13_forget (hC : TwI L h o s g) (hI : SgI g b q) (k : ∀ h', TwI L h' o s (setK g 0 (gM g) (gO g) (gV g)) → FO h h' o → Q (.inl [aI (gK g)]) L h') : am_C G mX13_forget (d + 12) [aR o] L h Q := by
  have hL := hC.1.1.1
  obtain ⟨d1, d2⟩ := hC.2.2.2.1
  refine x_start okX13_forget rfl rfl rfl rfl ?_
  refine x_aload_0 dX13_forget_0 ?_
  refine x_getI_ dX13_forget_1 fl1643_13 (by first | (exact MdL.k0 (by assumption)) | (assumption)) (fun r1 => ?_)
  rw [d1] at r1 ⊢
  refine x_istore_1 dX13_forget_4 rfl ?_
  refine x_aload_0 dX13_forget_5 ?_
  refine x_iconst dX13_forget_6 ?_
  refine x_putI_ dX13_forget_7 fl1643_13 (by first | (exact MdL.k0 (by assumption)) | (assumption)) (by omega) ?_
  refine x_iload_1 dX13_forget_10 ?_
  refine x_iret dX13_forget_11 rfl ?_
  exact k _ (hC.told (fun i z => am_st_i z) (fun a z0 _ _ _ => am_st_o z0) ⟨am_st_s, fun i z0 z1 => by omega⟩) (fun a z => am_st_o (by omega))
end TELL
