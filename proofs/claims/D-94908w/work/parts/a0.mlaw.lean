/-! THE TWIN READS: laws -/
set_option maxRecDepth 100000
section MLAW
variable {G : am_G} {L : am_L} {h h' h1 h2 : am_H} {o s D N a c c' br br' n p : Int} {b : Int → Int} {d : Nat} {Q : am_O → am_L → am_H → Prop} {tl tt te : Int → Tau}
/-- what the reading of a law may write, from code c and branch br on -/
def FwL (h h' : am_H) (o s c br : Int) : Prop := (∀ i, i < c ∨ 420 * s + 420 ≤ i → h' (o + 32) i = h (o + 32) i ∧ h' (o + 33) i = h (o + 33) i) ∧ (∀ i, i < br ∨ 130 * s + 130 ≤ i → h' (o + 27) i = h (o + 27) i ∧ h' (o + 28) i = h (o + 28) i ∧ h' (o + 29) i = h (o + 29) i ∧ h' (o + 30) i = h (o + 30) i ∧ h' (o + 31) i = h (o + 31) i) ∧
  (∀ y, y ≠ o → (y < (o + 27) ∨ (o + 34) < y) → h' y = h y) ∧ ∀ j, j ≠ 11 → j ≠ 12 → j ≠ 13 → j ≠ 14 → j ≠ 47 → j ≠ 51 → j ≠ 41 → h' o j = h o j
theorem FwL.rf (h : am_H) (o s c br : Int) : FwL h h o s c br := ⟨fun _ _ => ⟨rfl, rfl⟩, fun _ _ => ⟨rfl, rfl, rfl, rfl, rfl⟩, fun _ _ _ => rfl, fun _ _ _ _ _ _ _ _ => rfl⟩
theorem FwL.tr (r : FwL h h1 o s c br) (q : FwL h1 h2 o s c' br') (hc : c ≤ c') (hb : br ≤ br') : FwL h h2 o s c br := by
  obtain ⟨r1, r2, r3, r4⟩ := r
  obtain ⟨q1, q2, q3, q4⟩ := q
  refine ⟨fun i z => ?_, fun i z => ?_, fun y z0 z1 => (q3 y z0 z1).trans (r3 y z0 z1), fun j z0 z1 z2 z3 z4 z5 z6 => (q4 j z0 z1 z2 z3 z4 z5 z6).trans (r4 j z0 z1 z2 z3 z4 z5 z6)⟩
  · rw [(q1 i (by omega)).1, (q1 i (by omega)).2]; exact r1 i z
  · obtain ⟨e1, e2, e3, e4, e5⟩ := q2 i (by omega)
    rw [e1, e2, e3, e4, e5]; exact r2 i z
theorem FrE.l {w : Int} (r : FrE h h' o s c w) : FwL h h' o s c br := by
  obtain ⟨r1, r2, r3, r4⟩ := r
  refine ⟨r1, fun i z => ?_, fun y z0 z1 => r3 y z0 (by omega) (by omega) (by omega), fun j z0 z1 z2 z3 z4 z5 z6 => r4 j z0 z1 z2 z3 z4 z5⟩
  rw [r3 (o + 27) (by omega) (by omega) (by omega) (by omega), r3 (o + 28) (by omega) (by omega) (by omega) (by omega), r3 (o + 29) (by omega) (by omega) (by omega) (by omega), r3 (o + 30) (by omega) (by omega) (by omega) (by omega), r3 (o + 31) (by omega) (by omega) (by omega) (by omega)]
  exact ⟨rfl, rfl, rfl, rfl, rfl⟩
theorem FwL.st {j v : Int} (r : FwL h h1 o s c br) (hj : j = 11 ∨ j = 12 ∨ j = 13 ∨ j = 14 ∨ j = 47 ∨ j = 51 ∨ j = 41) : FwL h (am_st h1 o j v) o s c br := by
  obtain ⟨r1, r2, r3, r4⟩ := r
  refine ⟨fun i z => ?_, fun i z => ?_, fun y z0 z1 => ?_, fun i z0 z1 z2 z3 z4 z5 z6 => ?_⟩
  · rw [am_st_o (by omega), am_st_o (by omega)]; exact r1 i z
  · rw [am_st_o (by omega), am_st_o (by omega), am_st_o (by omega), am_st_o (by omega), am_st_o (by omega)]; exact r2 i z
  · rw [am_st_o z0]; exact r3 y z0 z1
  · rw [am_st_i (by omega)]; exact r4 i z0 z1 z2 z3 z4 z5 z6
theorem FwL.bs {y i v : Int} (r : FwL h h1 o s c br) (hy : (o + 27) ≤ y ∧ y ≤ (o + 31)) (hi : br ≤ i ∧ i < 130 * s + 130) : FwL h (am_st h1 y i v) o s c br := by
  obtain ⟨r1, r2, r3, r4⟩ := r
  have e : ∀ y' i', i' ≠ i → am_st h1 y i v y' i' = h1 y' i' := fun y' i' z => by rw [am_st_at, if_neg (fun q => z q.2)]
  refine ⟨fun i z => ?_, fun i' z => ?_, fun y' z0 z1 => ?_, fun i z0 z1 z2 z3 z4 z5 z6 => ?_⟩
  · rw [am_st_o (by omega), am_st_o (by omega)]; exact r1 i z
  · rw [e _ _ (by omega), e _ _ (by omega), e _ _ (by omega), e _ _ (by omega), e _ _ (by omega)]; exact r2 i' z
  · rw [am_st_o (by omega)]; exact r3 y' z0 z1
  · rw [am_st_o (by omega)]; exact r4 i z0 z1 z2 z3 z4 z5 z6
theorem FwL.fail (r : FwL h h1 o s c br) {k q : Int} : FwL h (failH h1 o k q) o s c br := by
  unfold failH
  exact (r.st (by omega)).st (by omega)
theorem RdM.fl (r : RdM L h o b D N) (f : FwL h h' o s c br) : RdM L h' o b D N := r.fr fun y z => f.2.2.1 y (by omega) (by omega)
theorem FT.fl (r : FT h o n p) {j v : Int} (hj : j = 51 ∨ j = 41) : FT (am_st h o j v) o n p := by
  obtain ⟨r1, r2, r3, r4⟩ := r
  exact ⟨by rw [am_st_i (by omega)]; exact r1, by rw [am_st_i (by omega)]; exact r2, by rw [am_st_i (by omega)]; exact r3, r4⟩
theorem FT.bs (r : FT h o n p) {y i v : Int} (hy : y ≠ o) : FT (am_st h y i v) o n p := by
  obtain ⟨r1, r2, r3, r4⟩ := r
  rw [show FT (am_st h y i v) o n p ↔ FT h o n p by unfold FT; rw [am_st_o (Ne.symm hy)]]
  exact ⟨r1, r2, r3, r4⟩
/-- the term of a branch, a fault having been told -/
theorem C_X13_termF (hL : MdL L o) (hs : 0 ≤ s ∧ s ≤ 1) (hF : FT h o n p) (hb : h o 41 = br) (hbr : 130 * s ≤ br ∧ br < 130 * s + 130) (kk : ∀ h', FwL h h' o s c br → FT h' o n p → h' o 41 = br + 1 → Q (.inl []) L h') : am_C G mX13_term (d + 6) [aR o] L h Q := by
  have hf := hF.ty
  refine x_start okX13_term rfl rfl rfl rfl ?_
  refine x_aload_0 dX13_term_0 ?_
  refine x_getR dX13_term_1 fl1619_13 rfl (by first | (exact MdL.k0 (by assumption)) | (assumption)) (by first | (exact MdL.v_testTo (by assumption)) | (assumption)) ?_
  refine x_aload_0 dX13_term_4 ?_
  refine x_getI_ dX13_term_5 fl1615_13 (by first | (exact MdL.k0 (by assumption)) | (assumption)) (fun r5 => ?_)
  simp (disch := omega) only [am_st_o, hb] at r5 ⊢
  refine x_aload_0 dX13_term_8 ?_
  refine x_getI_ dX13_term_9 fl1621_13 (by first | (exact MdL.k0 (by assumption)) | (assumption)) (fun r9 => ?_)
  refine x_iast_ dX13_term_12 (by first | (exact MdL.k_testTo (by assumption)) | (assumption)) (by first | (exact MdL.x_testTo (by assumption) (by omega) (by omega)) | (omega)) (by omega) ?_
  refine x_aload_0 dX13_term_13 ?_
  refine x_getI_ dX13_term_14 fl1587_13 (by first | (exact MdL.k0 (by assumption)) | (assumption)) (fun r14 => ?_)
  simp (disch := omega) only [am_st_o] at r14 ⊢
  refine x_if_ne (tgt := 24) dX13_term_17 rfl (by omega) (fun c17 => ?_) (fun c17 => ?_)
  · refine x_aload_0 dX13_term_24 ?_
    refine x_getR dX13_term_25 fl1620_13 rfl (by first | (exact MdL.k0 (by assumption)) | (assumption)) (by first | (exact MdL.v_termTo (by assumption)) | (assumption)) ?_
    refine x_aload_0 dX13_term_28 ?_
    refine x_getI_ dX13_term_29 fl1615_13 (by first | (exact MdL.k0 (by assumption)) | (assumption)) (fun r29 => ?_)
    simp (disch := omega) only [am_st_o, hb] at r29 ⊢
    refine x_aload_0 dX13_term_32 ?_
    refine x_getI_ dX13_term_33 fl1621_13 (by first | (exact MdL.k0 (by assumption)) | (assumption)) (fun r33 => ?_)
    refine x_iast_ dX13_term_36 (by first | (exact MdL.k_termTo (by assumption)) | (assumption)) (by first | (exact MdL.x_termTo (by assumption) (by omega) (by omega)) | (omega)) (by omega) ?_
    refine x_aload_0 dX13_term_37 ?_
    refine x_dup dX13_term_38 rfl ?_
    refine x_getI_ dX13_term_39 fl1615_13 (by first | (exact MdL.k0 (by assumption)) | (assumption)) (fun r39 => ?_)
    simp (disch := omega) only [am_st_o, hb] at r39 ⊢
    refine x_iconst dX13_term_42 ?_
    refine x_iadd dX13_term_43 ?_
    refine x_putI_ dX13_term_44 fl1615_13 (by first | (exact MdL.k0 (by assumption)) | (assumption)) (by omega) ?_
    refine x_ret dX13_term_47 rfl ?_
    refine kk _ ((((FwL.rf h o s c br).bs (by omega) (by omega)).bs (by omega) (by omega)).st (by omega)) (((hF.bs (by omega)).bs (by omega)).fl (by omega)) (by rw [am_st_s])
  · exfalso; omega
/-- the term of a branch -/
theorem C_X13_term (hs : 0 ≤ s ∧ s ≤ 1) (hR : RdM L h o b D N) (x1 : h o 13 = 0) (x2 : h o 11 = a) (x3 : h o 12 = 0) (x4 : h o 47 = c) (ha : inN N a) (hc : 420 * s ≤ c ∧ c ≤ 420 * s + a) (hb : h o 41 = br) (hbr : 130 * s ≤ br ∧ br < 130 * s + 130)
    (kS : ∀ t a' c' h', pS (sK b D) (sV b D) a = .inl (t, a') → a < a' → inN N a' → FwL h h' o s c br → (h' o 13 = 0 ∧ h' o 11 = a' ∧ h' o 12 = 0 ∧ h' o 47 = c') → h' o 41 = br + 1 → SgE h' o c c' t → c < c' → c' ≤ 420 * s + a' → (h' (o + 30) br = c ∧ h' (o + 31) br = c' ∧ h' (o + 27) br = h (o + 27) br ∧ h' (o + 28) br = h (o + 28) br ∧ h' (o + 29) br = h (o + 29) br) → Q (.inl []) L h')
    (kF : ∀ n tk h', pS (sK b D) (sV b D) a = .inr (n, tk) → FwL h h' o s c br → FT h' o n (sP b D tk) → (0 ≤ tk ∧ tk ≤ N) → h' o 41 = br + 1 → Q (.inl []) L h') : am_C G mX13_term (d + 6) [aR o] L h Q := by
  have hL := hR.ml
  have ha0 := ha.1
  have ha4 := ha.2
  refine x_start okX13_term rfl rfl rfl rfl ?_
  generalize hh1 : am_st h (o + 30) br c = h1
  have f1 : FwL h h1 o s c br := by
    rw [← hh1]
    exact (FwL.rf h o s c br).bs (by omega) (by omega)
  have e0 : ∀ j, h1 o j = h o j := fun j => by rw [← hh1, am_st_o (by omega)]
  have e1 : h1 (o + 30) br = c := by rw [← hh1, am_st_s]
  have e2 : ∀ y, y ≠ (o + 30) → h1 y = h y := fun y z => by rw [← hh1, am_st_o z]
  have hR1 := hR.fl f1
  have hb1 : h1 o 41 = br := (e0 _).trans hb
  have x11 : h1 o 13 = 0 := (e0 _).trans x1
  have x41 : h1 o 47 = c := (e0 _).trans x4
  have hend : ∀ h2 c2, (c ≤ c2 ∧ c2 < 840) → h2 o 47 = c2 → h2 o 41 = br → Q (.inl []) L (am_st (am_st h2 (o + 31) br c2) o 41 (br + 1)) → am_X G mX13_term (d + 6) 24 [aR o] [] L h2 Q := by
    intro h2 c2 z0 z1 z2 z3
    refine x_aload_0 dX13_term_24 ?_
    refine x_getR dX13_term_25 fl1620_13 rfl (by first | (exact MdL.k0 (by assumption)) | (assumption)) (by first | (exact MdL.v_termTo (by assumption)) | (assumption)) ?_
    refine x_aload_0 dX13_term_28 ?_
    refine x_getI_ dX13_term_29 fl1615_13 (by first | (exact MdL.k0 (by assumption)) | (assumption)) (fun r29 => ?_)
    simp (disch := omega) only [am_st_o, z2] at r29 ⊢
    refine x_aload_0 dX13_term_32 ?_
    refine x_getI_ dX13_term_33 fl1621_13 (by first | (exact MdL.k0 (by assumption)) | (assumption)) (fun r33 => ?_)
    rw [z1] at r33 ⊢
    refine x_iast_ dX13_term_36 (by first | (exact MdL.k_termTo (by assumption)) | (assumption)) (by first | (exact MdL.x_termTo (by assumption) (by omega) (by omega)) | (omega)) (by omega) ?_
    refine x_aload_0 dX13_term_37 ?_
    refine x_dup dX13_term_38 rfl ?_
    refine x_getI_ dX13_term_39 fl1615_13 (by first | (exact MdL.k0 (by assumption)) | (assumption)) (fun r39 => ?_)
    simp (disch := omega) only [am_st_o, z2] at r39 ⊢
    refine x_iconst dX13_term_42 ?_
    refine x_iadd dX13_term_43 ?_
    refine x_putI_ dX13_term_44 fl1615_13 (by first | (exact MdL.k0 (by assumption)) | (assumption)) (by omega) ?_
    refine x_ret dX13_term_47 rfl ?_
    exact z3
  have h13 : am_X G mX13_term (d + 6) 13 [aR o] [] L h1 Q := by
    refine x_aload_0 dX13_term_13 ?_
    refine x_getI_ dX13_term_14 fl1587_13 (by first | (exact MdL.k0 (by assumption)) | (assumption)) (fun r14 => ?_)
    rw [x11] at r14 ⊢
    refine x_if_ne (tgt := 24) dX13_term_17 rfl (by omega) (fun c17 => ?_) (fun c17 => ?_)
    · exact absurd rfl c17
    · refine x_aload_0 dX13_term_20 ?_
      refine x_callV0 dX13_term_21 rfl okX13_expression q1891 q1893 qs73 (by first | assumption | (exact MdL.k0 (by assumption))) am_k13 rfl (C_X13_expression hs hR1 x11 ((e0 _).trans x2) ((e0 _).trans x3) x41 ha hc (fun t a' c' h2 z1 z2 z3 z4 z5 z6 z7 z8 => (x_k0 ?_)) (fun n tk h2 z1 z2 z3 z4 => (x_k0 ?_)))
      · have zz := z3.2
        have hb2 : h2 o 41 = br := (z4.2.2.2 _ (by decide) (by decide) (by decide) (by decide) (by decide) (by decide)).trans hb1
        refine hend h2 c' ⟨by omega, by omega⟩ z5.2.2.2 hb2 (kS t a' c' _ z1 z2 z3 (((f1.tr z4.l (Int.le_refl _) (Int.le_refl _)).bs (by omega) (by omega)).st (by omega)) ⟨?_, ?_, ?_, ?_⟩ ?_ ?_ z7 z8 ⟨?_, ?_, ?_, ?_, ?_⟩)
        · simp (disch := omega) only [am_st_i, am_st_o, am_st_s]; exact z5.1
        · simp (disch := omega) only [am_st_i, am_st_o, am_st_s]; exact z5.2.1
        · simp (disch := omega) only [am_st_i, am_st_o, am_st_s]; exact z5.2.2.1
        · simp (disch := omega) only [am_st_i, am_st_o, am_st_s]; exact z5.2.2.2
        · simp (disch := omega) only [am_st_i, am_st_o, am_st_s]
        · obtain ⟨n, z6⟩ := z6
          refine ⟨n, ?_⟩
          simp (disch := omega) only [am_st_o]
          exact z6
        · simp (disch := omega) only [am_st_i, am_st_o, am_st_s]
          rw [z4.2.2.1 _ (by omega) (by omega) (by omega) (by omega)]; exact e1
        · simp (disch := omega) only [am_st_i, am_st_o, am_st_s]
        · simp (disch := omega) only [am_st_i, am_st_o, am_st_s]
          rw [z4.2.2.1 _ (by omega) (by omega) (by omega) (by omega), e2 _ (by omega)]
        · simp (disch := omega) only [am_st_i, am_st_o, am_st_s]
          rw [z4.2.2.1 _ (by omega) (by omega) (by omega) (by omega), e2 _ (by omega)]
        · simp (disch := omega) only [am_st_i, am_st_o, am_st_s]
          rw [z4.2.2.1 _ (by omega) (by omega) (by omega) (by omega), e2 _ (by omega)]
      · have hb2 : h2 o 41 = br := (z2.2.2.2 _ (by decide) (by decide) (by decide) (by decide) (by decide) (by decide)).trans hb1
        refine x_aload_0 dX13_term_24 ?_
        refine x_getR dX13_term_25 fl1620_13 rfl (by first | (exact MdL.k0 (by assumption)) | (assumption)) (by first | (exact MdL.v_termTo (by assumption)) | (assumption)) ?_
        refine x_aload_0 dX13_term_28 ?_
        refine x_getI_ dX13_term_29 fl1615_13 (by first | (exact MdL.k0 (by assumption)) | (assumption)) (fun r29 => ?_)
        simp (disch := omega) only [am_st_o, hb2] at r29 ⊢
        refine x_aload_0 dX13_term_32 ?_
        refine x_getI_ dX13_term_33 fl1621_13 (by first | (exact MdL.k0 (by assumption)) | (assumption)) (fun r33 => ?_)
        refine x_iast_ dX13_term_36 (by first | (exact MdL.k_termTo (by assumption)) | (assumption)) (by first | (exact MdL.x_termTo (by assumption) (by omega) (by omega)) | (omega)) (by omega) ?_
        refine x_aload_0 dX13_term_37 ?_
        refine x_dup dX13_term_38 rfl ?_
        refine x_getI_ dX13_term_39 fl1615_13 (by first | (exact MdL.k0 (by assumption)) | (assumption)) (fun r39 => ?_)
        simp (disch := omega) only [am_st_o, hb2] at r39 ⊢
        refine x_iconst dX13_term_42 ?_
        refine x_iadd dX13_term_43 ?_
        refine x_putI_ dX13_term_44 fl1615_13 (by first | (exact MdL.k0 (by assumption)) | (assumption)) (by omega) ?_
        refine x_ret dX13_term_47 rfl ?_
        exact kF n tk _ z1 (((f1.tr z2.l (Int.le_refl _) (Int.le_refl _)).bs (by omega) (by omega)).st (by omega)) ((z3.bs (by omega)).fl (by omega)) z4 (by rw [am_st_s])
  refine x_aload_0 dX13_term_0 ?_
  refine x_getR dX13_term_1 fl1619_13 rfl (by first | (exact MdL.k0 (by assumption)) | (assumption)) (by first | (exact MdL.v_testTo (by assumption)) | (assumption)) ?_
  refine x_aload_0 dX13_term_4 ?_
  refine x_getI_ dX13_term_5 fl1615_13 (by first | (exact MdL.k0 (by assumption)) | (assumption)) (fun r5 => ?_)
  rw [hb] at r5 ⊢
  refine x_aload_0 dX13_term_8 ?_
  refine x_getI_ dX13_term_9 fl1621_13 (by first | (exact MdL.k0 (by assumption)) | (assumption)) (fun r9 => ?_)
  rw [x4] at r9 ⊢
  refine x_iast_ dX13_term_12 (by first | (exact MdL.k_testTo (by assumption)) | (assumption)) (by first | (exact MdL.x_testTo (by assumption) (by omega) (by omega)) | (omega)) (by omega) ?_
  rw [hh1]
  exact h13
end MLAW
