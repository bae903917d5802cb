/-! THE TWIN READS: a sum, the induction's steps -/
set_option maxRecDepth 100000
section MSTEP
variable {G : am_G} {L : am_L} {h h' : am_H} {h0 : am_H} {o s c0 base D N a op c w w' m : Int} {b : Int → Int} {d : Nat} {Q : am_O → am_L → am_H → Prop} {t : Tau} {f : Nat}
theorem FT.ty {n p : Int} (r : FT h o n p) : 0 < h o 13 := by
  obtain ⟨r1, r2, r3, r4⟩ := r
  omega
/-- more open than may be, a fault having been told -/
theorem ex_openF {n p : Int} (hL : MdL L o) (hF : FT h o n p) (x3 : h o 12 = op) (x5 : h o 51 = w) (hop : 0 ≤ op ∧ op ≤ 6) (hw : 0 ≤ w ∧ w ≤ 62) (kk : ∀ h', FrE h h' o s c w → FT h' o n p → Q (.inl []) L h') : am_X G mX13_expression (d + 5) 46 [aR o, aI base, aI 1] [] L h Q := by
  obtain ⟨r1, r2, r3, r4⟩ := hF
  have f1 : 0 < am_st h o 12 (op + 1) o 13 := by simp (disch := omega) only [am_st_i, am_st_o, am_st_s]; omega
  have f2 : 0 ≤ am_st h o 12 (op + 1) o 11 ∧ am_st h o 12 (op + 1) o 11 ≤ 400 := by simp (disch := omega) only [am_st_i, am_st_o, am_st_s]; exact r3
  refine x_aload_0 dX13_expression_46 ?_
  refine x_dup dX13_expression_47 rfl ?_
  refine x_getI_ dX13_expression_48 fl1586_13 (by first | (exact MdL.k0 (by assumption)) | (assumption)) (fun r48 => ?_)
  rw [x3] at r48 ⊢
  refine x_iconst dX13_expression_51 ?_
  refine x_iadd dX13_expression_52 ?_
  refine x_putI_ dX13_expression_53 fl1586_13 (by first | (exact MdL.k0 (by assumption)) | (assumption)) (by omega) ?_
  refine x_aload_0 dX13_expression_56 ?_
  refine x_callV0 dX13_expression_57 rfl okX13_goesOn q1847 q1849 qs62 (by first | assumption | (exact MdL.k0 (by assumption))) am_k13 rfl (C_X13_goesOn0 hL f1 f2 (fun t' ht => (x_k0 ?_)))
  refine x_aload_0 dX13_expression_60 ?_
  refine x_getR dX13_expression_61 fl1624_13 rfl (by first | (exact MdL.k0 (by assumption)) | (assumption)) (by first | (exact MdL.v_waits (by assumption)) | (assumption)) ?_
  refine x_aload_0 dX13_expression_64 ?_
  refine x_getI_ dX13_expression_65 fl1625_13 (by first | (exact MdL.k0 (by assumption)) | (assumption)) (fun r65 => ?_)
  simp (disch := omega) only [am_st_o, am_st_i, x5] at r65 ⊢
  refine x_bipush dX13_expression_68 rfl ?_
  refine x_iast_ dX13_expression_70 (by first | (exact MdL.k_waits (by assumption)) | (assumption)) (by first | (exact MdL.x_waits (by assumption) (by omega) (by omega)) | (omega)) (by omega) ?_
  refine x_aload_0 dX13_expression_71 ?_
  refine x_dup dX13_expression_72 rfl ?_
  refine x_getI_ dX13_expression_73 fl1625_13 (by first | (exact MdL.k0 (by assumption)) | (assumption)) (fun r73 => ?_)
  simp (disch := omega) only [am_st_o, am_st_i, x5] at r73 ⊢
  refine x_iconst dX13_expression_76 ?_
  refine x_iadd dX13_expression_77 ?_
  refine x_putI_ dX13_expression_78 fl1625_13 (by first | (exact MdL.k0 (by assumption)) | (assumption)) (by omega) ?_
  refine x_goto (tgt := 23) dX13_expression_81 rfl ?_
  refine exFlt hL (by simp (disch := omega) only [am_st_i, am_st_o, am_st_s]; omega) (kk _ ((((FrE.rf h o s c w).st (by omega)).st (by omega)).ws (Int.le_refl _) |>.st (by omega)) ⟨?_, ?_, ?_, r4⟩)
  · simp (disch := omega) only [am_st_i, am_st_o, am_st_s]; exact r1
  · simp (disch := omega) only [am_st_i, am_st_o, am_st_s]; exact r2
  · simp (disch := omega) only [am_st_i, am_st_o, am_st_s]; exact ht
theorem FT.of {n : Int} (x2 : h o 11 = a) (ha : 0 ≤ a ∧ a ≤ 400) (hn : n = 1 ∨ n = 2) (p : Int) : FT (failH h o n p) o n p := by
  refine ⟨?_, ?_, ?_, hn⟩
  · unfold failH; rw [am_st_i (by decide), am_st_s]
  · unfold failH; rw [am_st_s]
  · unfold failH; rw [am_st_i (by decide), am_st_i (by decide), x2]; exact ha
theorem FrE.fail {n p : Int} (r : FrE h0 h o s c w) : FrE h0 (failH h o n p) o s c w := by
  unfold failH
  exact (r.st (by omega)).st (by omega)
/-- what the open sign leads to -/
theorem ex_open (hst : ST L h0 o s c0 base D N b h a op c w) (hw : w ≤ 62) (hb0 : 0 ≤ base) (q6 : sK b D a = 6)
    (k1 : op = 6 → ∀ h', FrE h0 h' o s c0 0 → FT h' o 2 (sP b D a) → Q (.inl []) L h') (k2 : op < 6 → 400 ≤ a → ∀ h', FrE h0 h' o s c0 0 → FT h' o 2 (sP b D a) → Q (.inl []) L h')
    (k3 : op < 6 → a < 400 → ∀ h', FrE h h' o s c w → ST L h0 o s c0 base D N b h' (a + 1) (op + 1) c (w + 1) → h' (o + 34) w = 6 → XE G d L Q o base 23 h') : XE G d L Q o base 23 h := by
  obtain ⟨g1, g2, hR, ⟨x1, x2, x3, x4, x5⟩, ha, hop, hw0, hcw⟩ := id hst
  have hL := hR.ml
  have ha0 := ha.1
  have ha4 := ha.2
  show am_X G mX13_expression (d + 5) 23 [aR o, aI base, aI 1] [] L h Q
  by_cases qo : op = 6
  · have hF : FT (failH h o 2 (sP b D a)) o 2 (sP b D a) := FT.of x2 ⟨by omega, ha4⟩ (Or.inr rfl) _
    have h46 := ex_openF (G := G) (d := d) (Q := Q) (base := base) (s := s) (c := c) (op := op) (w := w) hL hF (by simp (disch := omega) only [failH, am_st_i, am_st_o, am_st_s]; exact x3) (by simp (disch := omega) only [failH, am_st_i, am_st_o, am_st_s]; exact x5) ⟨by omega, hop.2⟩ ⟨hw0, hw⟩ (fun h' z1 z2 => k1 qo h' (g1.fail.tr z1 g2 hw0) z2)
    refine x_aload_0 dX13_expression_23 ?_
    refine x_bipush dX13_expression_24 rfl ?_
    refine x_callV1 dX13_expression_26 rfl okX13_is q1839 q1841 qs60 (by first | assumption | (exact MdL.k0 (by assumption))) am_k13 rfl (C_X13_is hR x1 x2 ha ⟨by decide, by decide⟩ (x_k1 ?_))
    rw [if_pos q6]
    refine x_if_eq (tgt := 84) dX13_expression_29 rfl (by omega) (fun c29 => ?_) (fun c29 => ?_)
    · exact absurd c29 (by decide)
    · refine x_aload_0 dX13_expression_32 ?_
      refine x_getI_ dX13_expression_33 fl1586_13 (by first | (exact MdL.k0 (by assumption)) | (assumption)) (fun r33 => ?_)
      rw [x3] at r33 ⊢
      refine x_bipush dX13_expression_36 rfl ?_
      refine x_icmp_ne (tgt := 46) dX13_expression_38 rfl (by omega) (by omega) (fun c38 => ?_) (fun c38 => ?_)
      · first
        | exact h46
        | (exfalso; omega)
      · refine x_aload_0 dX13_expression_41 ?_
        refine x_iconst dX13_expression_42 ?_
        refine x_callV1 dX13_expression_43 rfl okX13_fail q1851 q1853 qs63 (by first | assumption | (exact MdL.k0 (by assumption))) am_k13 rfl (C_X13_fail hR x1 x2 ha (by decide) (x_k0 ?_))
        first
        | exact h46
        | (exfalso; omega)
  · have f1 : am_st h o 12 (op + 1) o 13 = 0 := by rw [am_st_i (by decide)]; exact x1
    have f2 : am_st h o 12 (op + 1) o 11 = a := by rw [am_st_i (by decide)]; exact x2
    by_cases q4 : a < 400
    · have f4 : am_st (am_st h o 12 (op + 1)) o 11 (a + 1) o 51 = w := by simp (disch := omega) only [am_st_i, am_st_o, am_st_s]; exact x5
      have hfr : ∀ hh c9 w9, FrE hh h o s c9 w9 → w9 ≤ w → FrE hh (am_st (am_st (am_st (am_st h o 12 (op + 1)) o 11 (a + 1)) (o + 34) w 6) o 51 (w + 1)) o s c9 w9 := fun hh c9 w9 z z2 => (((z.st (by omega)).st (by omega)).ws z2).st (by omega)
      refine x_aload_0 dX13_expression_23 ?_
      refine x_bipush dX13_expression_24 rfl ?_
      refine x_callV1 dX13_expression_26 rfl okX13_is q1839 q1841 qs60 (by first | assumption | (exact MdL.k0 (by assumption))) am_k13 rfl (C_X13_is hR x1 x2 ha ⟨by decide, by decide⟩ (x_k1 ?_))
      rw [if_pos q6]
      refine x_if_eq (tgt := 84) dX13_expression_29 rfl (by omega) (fun c29 => ?_) (fun c29 => ?_)
      · exact absurd c29 (by decide)
      · refine x_aload_0 dX13_expression_32 ?_
        refine x_getI_ dX13_expression_33 fl1586_13 (by first | (exact MdL.k0 (by assumption)) | (assumption)) (fun r33 => ?_)
        rw [x3] at r33 ⊢
        refine x_bipush dX13_expression_36 rfl ?_
        refine x_icmp_ne (tgt := 46) dX13_expression_38 rfl (by omega) (by omega) (fun c38 => ?_) (fun c38 => ?_)
        · refine x_aload_0 dX13_expression_46 ?_
          refine x_dup dX13_expression_47 rfl ?_
          refine x_getI_ dX13_expression_48 fl1586_13 (by first | (exact MdL.k0 (by assumption)) | (assumption)) (fun r48 => ?_)
          rw [x3] at r48 ⊢
          refine x_iconst dX13_expression_51 ?_
          refine x_iadd dX13_expression_52 ?_
          refine x_putI_ dX13_expression_53 fl1586_13 (by first | (exact MdL.k0 (by assumption)) | (assumption)) (by omega) ?_
          refine x_aload_0 dX13_expression_56 ?_
          refine x_callV0 dX13_expression_57 rfl okX13_goesOn q1847 q1849 qs62 (by first | assumption | (exact MdL.k0 (by assumption))) am_k13 rfl (C_X13_goesOn hR.st0 f1 f2 ha (fun z => (x_k0 ?_)) (fun z => by exfalso; omega))
          refine x_aload_0 dX13_expression_60 ?_
          refine x_getR dX13_expression_61 fl1624_13 rfl (by first | (exact MdL.k0 (by assumption)) | (assumption)) (by first | (exact MdL.v_waits (by assumption)) | (assumption)) ?_
          refine x_aload_0 dX13_expression_64 ?_
          refine x_getI_ dX13_expression_65 fl1625_13 (by first | (exact MdL.k0 (by assumption)) | (assumption)) (fun r65 => ?_)
          simp (disch := omega) only [am_st_o, am_st_i, x5] at r65 ⊢
          refine x_bipush dX13_expression_68 rfl ?_
          refine x_iast_ dX13_expression_70 (by first | (exact MdL.k_waits (by assumption)) | (assumption)) (by first | (exact MdL.x_waits (by assumption) (by omega) (by omega)) | (omega)) (by omega) ?_
          refine x_aload_0 dX13_expression_71 ?_
          refine x_dup dX13_expression_72 rfl ?_
          refine x_getI_ dX13_expression_73 fl1625_13 (by first | (exact MdL.k0 (by assumption)) | (assumption)) (fun r73 => ?_)
          simp (disch := omega) only [am_st_o, am_st_i, x5] at r73 ⊢
          refine x_iconst dX13_expression_76 ?_
          refine x_iadd dX13_expression_77 ?_
          refine x_putI_ dX13_expression_78 fl1625_13 (by first | (exact MdL.k0 (by assumption)) | (assumption)) (by omega) ?_
          refine x_goto (tgt := 23) dX13_expression_81 rfl ?_
          refine k3 (by omega) q4 _ (hfr h c w (FrE.rf h o s c w) (Int.le_refl _)) ⟨hfr h0 c0 0 g1 hw0, g2, hR.fe (hfr h c w (FrE.rf h o s c w) (Int.le_refl _)), ⟨?_, ?_, ?_, ?_, ?_⟩, hR.nx ha (by omega) (by omega) q4, ⟨by omega, by omega⟩, by omega, by omega⟩ ?_
          · simp (disch := omega) only [am_st_i, am_st_o, am_st_s]; exact x1
          · simp (disch := omega) only [am_st_i, am_st_o, am_st_s]
          · simp (disch := omega) only [am_st_i, am_st_o, am_st_s]
          · simp (disch := omega) only [am_st_i, am_st_o, am_st_s]; exact x4
          · simp (disch := omega) only [am_st_i, am_st_o, am_st_s]
          · simp (disch := omega) only [am_st_i, am_st_o, am_st_s]
        · exfalso; omega
    · have hF : FT (failH (am_st h o 12 (op + 1)) o 2 (sP b D a)) o 2 (sP b D a) := FT.of f2 ⟨by omega, ha4⟩ (Or.inr rfl) _
      refine x_aload_0 dX13_expression_23 ?_
      refine x_bipush dX13_expression_24 rfl ?_
      refine x_callV1 dX13_expression_26 rfl okX13_is q1839 q1841 qs60 (by first | assumption | (exact MdL.k0 (by assumption))) am_k13 rfl (C_X13_is hR x1 x2 ha ⟨by decide, by decide⟩ (x_k1 ?_))
      rw [if_pos q6]
      refine x_if_eq (tgt := 84) dX13_expression_29 rfl (by omega) (fun c29 => ?_) (fun c29 => ?_)
      · exact absurd c29 (by decide)
      · refine x_aload_0 dX13_expression_32 ?_
        refine x_getI_ dX13_expression_33 fl1586_13 (by first | (exact MdL.k0 (by assumption)) | (assumption)) (fun r33 => ?_)
        rw [x3] at r33 ⊢
        refine x_bipush dX13_expression_36 rfl ?_
        refine x_icmp_ne (tgt := 46) dX13_expression_38 rfl (by omega) (by omega) (fun c38 => ?_) (fun c38 => ?_)
        · refine x_aload_0 dX13_expression_46 ?_
          refine x_dup dX13_expression_47 rfl ?_
          refine x_getI_ dX13_expression_48 fl1586_13 (by first | (exact MdL.k0 (by assumption)) | (assumption)) (fun r48 => ?_)
          rw [x3] at r48 ⊢
          refine x_iconst dX13_expression_51 ?_
          refine x_iadd dX13_expression_52 ?_
          refine x_putI_ dX13_expression_53 fl1586_13 (by first | (exact MdL.k0 (by assumption)) | (assumption)) (by omega) ?_
          refine x_aload_0 dX13_expression_56 ?_
          refine x_callV0 dX13_expression_57 rfl okX13_goesOn q1847 q1849 qs62 (by first | assumption | (exact MdL.k0 (by assumption))) am_k13 rfl (C_X13_goesOn hR.st0 f1 f2 ha (fun z => by exfalso; omega) (fun z => (x_k0 ?_)))
          refine x_aload_0 dX13_expression_60 ?_
          refine x_getR dX13_expression_61 fl1624_13 rfl (by first | (exact MdL.k0 (by assumption)) | (assumption)) (by first | (exact MdL.v_waits (by assumption)) | (assumption)) ?_
          refine x_aload_0 dX13_expression_64 ?_
          refine x_getI_ dX13_expression_65 fl1625_13 (by first | (exact MdL.k0 (by assumption)) | (assumption)) (fun r65 => ?_)
          simp (disch := omega) only [failH, am_st_o, am_st_i, x5] at r65 ⊢
          refine x_bipush dX13_expression_68 rfl ?_
          refine x_iast_ dX13_expression_70 (by first | (exact MdL.k_waits (by assumption)) | (assumption)) (by first | (exact MdL.x_waits (by assumption) (by omega) (by omega)) | (omega)) (by omega) ?_
          refine x_aload_0 dX13_expression_71 ?_
          refine x_dup dX13_expression_72 rfl ?_
          refine x_getI_ dX13_expression_73 fl1625_13 (by first | (exact MdL.k0 (by assumption)) | (assumption)) (fun r73 => ?_)
          simp (disch := omega) only [failH, am_st_o, am_st_i, x5] at r73 ⊢
          refine x_iconst dX13_expression_76 ?_
          refine x_iadd dX13_expression_77 ?_
          refine x_putI_ dX13_expression_78 fl1625_13 (by first | (exact MdL.k0 (by assumption)) | (assumption)) (by omega) ?_
          refine x_goto (tgt := 23) dX13_expression_81 rfl ?_
          obtain ⟨r1, r2, r3, r4⟩ := hF
          refine exFlt hL (by simp (disch := omega) only [failH, am_st_i, am_st_o, am_st_s]; decide) (k2 (by omega) (by omega) _ (((g1.st (by omega)).fail.ws hw0).st (by omega)) ⟨?_, ?_, ?_, r4⟩)
          · rw [am_st_i (by decide), am_st_o (by omega)]; exact r1
          · rw [am_st_i (by decide), am_st_o (by omega)]; exact r2
          · rw [am_st_i (by decide), am_st_o (by omega)]; exact r3
        · exfalso; omega
/-- a sum that was open is at its end -/
theorem ex_close (hs : 0 ≤ s ∧ s ≤ 1) (hc0 : 0 ≤ c0) (hb0 : 0 ≤ base) (hst : ST L h0 o s c0 base D N b h a op c w') (hop1 : base < op) (hw : 1 ≤ w ∧ w' ≤ 64) (hcm : c0 ≤ m) (htop : h (o + 34) (w - 1) = 6) (hP : PdS h o m c w w' t) (hno : sK b D a ≠ 8 ∧ sK b D a ≠ 9 ∧ sK b D a ≠ 10 ∧ sK b D a ≠ 15)
    (k1 : sK b D a ≠ 7 → ∀ h', FrE h0 h' o s c0 0 → FT h' o 1 (sP b D a) → Q (.inl []) L h') (k2 : sK b D a = 7 → 400 ≤ a → ∀ h', FrE h0 h' o s c0 0 → FT h' o 2 (sP b D a) → Q (.inl []) L h')
    (k3 : sK b D a = 7 → a < 400 → ∀ h' c', FrE h h' o s m (w - 1) → ST L h0 o s c0 base D N b h' (a + 1) (op - 1) c' (w - 1) → SgE h' o m c' t → XE G d L Q o base 96 h') : XE G d L Q o base 96 h := by
  obtain ⟨g1, g2, hR, ⟨x1, x2, x3, x4, x5⟩, ha, hop, hw0, hcw⟩ := id hst
  have hL := hR.ml
  have ha0 := ha.1
  have ha4 := ha.2
  have hle := hP.le
  show am_X G mX13_expression (d + 5) 96 [aR o, aI base, aI 1] [] L h Q
  by_cases q7 : sK b D a = 7
  · have hback : ∀ h3 c3, c3 + w = c + w' → c ≤ c3 → CoF h h3 o s c → h3 o 47 = c3 → h3 o 51 = w → SgE h3 o m c3 t → am_X G mX13_expression (d + 5) 118 [aR o, aI base, aI 1] [] L h3 Q := by
      intro h3 c3 e1 e2 f1 f2 f3 f4
      have y1 : h3 o 13 = 0 := by rw [f1.2.2 _ (by decide) (by decide)]; exact x1
      have y2 : h3 o 11 = a := by rw [f1.2.2 _ (by decide) (by decide)]; exact x2
      have y3 : h3 o 12 = op := by rw [f1.2.2 _ (by decide) (by decide)]; exact x3
      have g3 : FrE h0 h3 o s c0 0 := g1.tr (f1.fe (w := w')) g2 (by omega)
      have hR3 : RdM L (am_st (am_st h3 o 51 (w - 1)) o 12 (op - 1)) o b D N := (hR.fe (f1.fe (w := w'))).st0.st0
      have z1 : am_st (am_st h3 o 51 (w - 1)) o 12 (op - 1) o 13 = 0 := by simp (disch := omega) only [am_st_i, am_st_o, am_st_s]; exact y1
      have z2 : am_st (am_st h3 o 51 (w - 1)) o 12 (op - 1) o 11 = a := by simp (disch := omega) only [am_st_i, am_st_o, am_st_s]; exact y2
      have y4 : am_st h3 o 51 (w - 1) o 12 = op := by simp (disch := omega) only [am_st_i, am_st_o, am_st_s]; exact y3
      by_cases q4 : a < 400
      · skip
        refine x_aload_0 dX13_expression_118 ?_
        refine x_dup dX13_expression_119 rfl ?_
        refine x_getI_ dX13_expression_120 fl1625_13 (by first | (exact MdL.k0 (by assumption)) | (assumption)) (fun r120 => ?_)
        rw [f3] at r120 ⊢
        refine x_iconst dX13_expression_123 ?_
        refine x_isub dX13_expression_124 ?_
        refine x_putI_ dX13_expression_125 fl1625_13 (by first | (exact MdL.k0 (by assumption)) | (assumption)) (by omega) ?_
        refine x_aload_0 dX13_expression_128 ?_
        refine x_dup dX13_expression_129 rfl ?_
        refine x_getI_ dX13_expression_130 fl1586_13 (by first | (exact MdL.k0 (by assumption)) | (assumption)) (fun r130 => ?_)
        rw [y4] at r130 ⊢
        refine x_iconst dX13_expression_133 ?_
        refine x_isub dX13_expression_134 ?_
        refine x_putI_ dX13_expression_135 fl1586_13 (by first | (exact MdL.k0 (by assumption)) | (assumption)) (by omega) ?_
        refine x_aload_0 dX13_expression_138 ?_
        refine x_callV0 dX13_expression_139 rfl okX13_goesOn q1847 q1849 qs62 (by first | assumption | (exact MdL.k0 (by assumption))) am_k13 rfl (C_X13_goesOn hR3 z1 z2 ha (fun z => (x_k0 ?_)) (fun z => by exfalso; omega))
        refine x_goto (tgt := 96) dX13_expression_142 rfl ?_
        refine k3 q7 q4 _ c3 ?_ ⟨((g3.st (by omega)).st (by omega)).st (by omega), by omega, hR3.st0, ⟨?_, ?_, ?_, ?_, ?_⟩, hR.nx ha (by omega) (by omega) q4, ⟨by omega, by omega⟩, by omega, by omega⟩ ?_
        · exact ((((f1.fe (w := w - 1)).st (by omega)).st (by omega)).st (by omega)) |> fun z => ⟨fun i y => z.1 i (by omega), z.2⟩
        · simp (disch := omega) only [am_st_i, am_st_o, am_st_s]; exact y1
        · simp (disch := omega) only [am_st_i, am_st_o, am_st_s]
        · simp (disch := omega) only [am_st_i, am_st_o, am_st_s]
        · simp (disch := omega) only [am_st_i, am_st_o, am_st_s]; exact f2
        · simp (disch := omega) only [am_st_i, am_st_o, am_st_s]
        · obtain ⟨n, f4⟩ := f4
          refine ⟨n, ?_⟩
          simp (disch := omega) only [am_st_o]
          exact f4
      · have hF := FT.of (n := 2) z2 ⟨by omega, ha4⟩ (Or.inr rfl) (sP b D a)
        refine x_aload_0 dX13_expression_118 ?_
        refine x_dup dX13_expression_119 rfl ?_
        refine x_getI_ dX13_expression_120 fl1625_13 (by first | (exact MdL.k0 (by assumption)) | (assumption)) (fun r120 => ?_)
        rw [f3] at r120 ⊢
        refine x_iconst dX13_expression_123 ?_
        refine x_isub dX13_expression_124 ?_
        refine x_putI_ dX13_expression_125 fl1625_13 (by first | (exact MdL.k0 (by assumption)) | (assumption)) (by omega) ?_
        refine x_aload_0 dX13_expression_128 ?_
        refine x_dup dX13_expression_129 rfl ?_
        refine x_getI_ dX13_expression_130 fl1586_13 (by first | (exact MdL.k0 (by assumption)) | (assumption)) (fun r130 => ?_)
        rw [y4] at r130 ⊢
        refine x_iconst dX13_expression_133 ?_
        refine x_isub dX13_expression_134 ?_
        refine x_putI_ dX13_expression_135 fl1586_13 (by first | (exact MdL.k0 (by assumption)) | (assumption)) (by omega) ?_
        refine x_aload_0 dX13_expression_138 ?_
        refine x_callV0 dX13_expression_139 rfl okX13_goesOn q1847 q1849 qs62 (by first | assumption | (exact MdL.k0 (by assumption))) am_k13 rfl (C_X13_goesOn hR3 z1 z2 ha (fun z => by exfalso; omega) (fun z => (x_k0 ?_)))
        refine x_goto (tgt := 96) dX13_expression_142 rfl ?_
        refine exFlt96 (s := s) (w := w - 1) (c := c3) hL ⟨hb0, by omega⟩ hF.ty hs ?_ ?_ (by omega) (by omega) (fun h9 f9 => k2 q7 (by omega) h9 (((((g3.st (by omega)).st (by omega)).fail).tr (f9.fe (w := w - 1)) (by omega) (by omega))) ?_)
        · simp (disch := omega) only [failH, am_st_i, am_st_o, am_st_s]
        · simp (disch := omega) only [failH, am_st_i, am_st_o, am_st_s]; exact f2
        · obtain ⟨r1, r2, r3, r4⟩ := hF
          exact ⟨(f9.2.2 _ (by decide) (by decide)).trans r1, (f9.2.2 _ (by decide) (by decide)).trans r2, by rw [f9.2.2 _ (by decide) (by decide)]; exact r3, r4⟩
    refine x_aload_0 dX13_expression_96 ?_
    refine x_bipush dX13_expression_97 rfl ?_
    refine x_callV1 dX13_expression_99 rfl okX13_is q1839 q1841 qs60 (by first | assumption | (exact MdL.k0 (by assumption))) am_k13 rfl (C_X13_is hR x1 x2 ha ⟨by decide, by decide⟩ (x_k1 ?_))
    rw [if_pos q7]
    refine x_if_eq (tgt := 145) dX13_expression_102 rfl (by omega) (fun c102 => ?_) (fun c102 => ?_)
    · first
      | exact absurd c102 (by decide)
      | (exfalso; omega)
    · refine x_aload_0 dX13_expression_105 ?_
      refine x_getI_ dX13_expression_106 fl1586_13 (by first | (exact MdL.k0 (by assumption)) | (assumption)) (fun r106 => ?_)
      rw [x3] at r106 ⊢
      refine x_iload_1 dX13_expression_109 ?_
      refine x_icmp_le (tgt := 145) dX13_expression_110 rfl (by omega) (by omega) (fun c110 => ?_) (fun c110 => ?_)
      · first
        | exact absurd c102 (by decide)
        | (exfalso; omega)
      · refine x_aload_0 dX13_expression_113 ?_
        refine x_iconst dX13_expression_114 ?_
        refine x_callV1 dX13_expression_115 rfl okX13_comesOut q1903 q1905 qs76 (by first | assumption | (exact MdL.k0 (by assumption))) am_k13 rfl (co_S (w := w) (d := d + 2) hL x5 x4 ⟨by omega, hw.2⟩ (Or.inr htop) ⟨by omega, hs.1, hs.2, by omega⟩ hP (fun h3 c3 e1 e2 f1 f2 f3 f4 => (x_k0 ?_)))
        exact hback h3 c3 e1 e2 f1 f2 f3 f4
  · have hF := FT.of (n := 1) x2 ⟨by omega, ha4⟩ (Or.inl rfl) (sP b D a)
    have hco : am_C G mX13_comesOut (d + 4) [aR o, aI 0] L (failH h o 1 (sP b D a)) (am_K G mX13_expression (d + 5) 206 [aR o, aI base, aI 0] [] Q) := by
      refine C_coAny (s := s) (w := w') (c := c) (d := d + 2) hL hs ?_ ?_ (by omega) (by omega) (fun h9 f9 => x_k0 ?_)
      · simp (disch := omega) only [failH, am_st_i, am_st_o, am_st_s]; exact x5
      · simp (disch := omega) only [failH, am_st_i, am_st_o, am_st_s]; exact x4
      · refine x_ret dX13_expression_209 rfl ?_
        obtain ⟨r1, r2, r3, r4⟩ := hF
        exact k1 q7 h9 (g1.fail.tr (f9.fe (w := w')) (by omega) (by omega)) ⟨(f9.2.2 _ (by decide) (by decide)).trans r1, (f9.2.2 _ (by decide) (by decide)).trans r2, by rw [f9.2.2 _ (by decide) (by decide)]; exact r3, r4⟩
    have h204 : am_X G mX13_expression (d + 5) 204 [aR o, aI base, aI 0] [] L (failH h o 1 (sP b D a)) Q := by
      refine x_aload_0 dX13_expression_204 ?_
      refine x_iconst dX13_expression_205 ?_
      refine x_callV1 dX13_expression_206 rfl okX13_comesOut q1903 q1905 qs76 (by first | assumption | (exact MdL.k0 (by assumption))) am_k13 rfl hco
      skip
    refine x_aload_0 dX13_expression_96 ?_
    refine x_bipush dX13_expression_97 rfl ?_
    refine x_callV1 dX13_expression_99 rfl okX13_is q1839 q1841 qs60 (by first | assumption | (exact MdL.k0 (by assumption))) am_k13 rfl (C_X13_is hR x1 x2 ha ⟨by decide, by decide⟩ (x_k1 ?_))
    rw [if_neg q7]
    refine x_if_eq (tgt := 145) dX13_expression_102 rfl (by omega) (fun c102 => ?_) (fun c102 => ?_)
    · refine x_aload_0 dX13_expression_145 ?_
      refine x_bipush dX13_expression_146 rfl ?_
      refine x_callV1 dX13_expression_148 rfl okX13_is q1839 q1841 qs60 (by first | assumption | (exact MdL.k0 (by assumption))) am_k13 rfl (C_X13_is hR x1 x2 ha ⟨by decide, by decide⟩ (x_k1 ?_))
      rw [if_neg hno.1]
      refine x_if_ne (tgt := 181) dX13_expression_151 rfl (by omega) (fun c151 => ?_) (fun c151 => ?_)
      · first
        | exact absurd rfl c151
        | exact absurd rfl c160
        | exact absurd rfl c169
        | exact absurd rfl c178
      · refine x_aload_0 dX13_expression_154 ?_
        refine x_bipush dX13_expression_155 rfl ?_
        refine x_callV1 dX13_expression_157 rfl okX13_is q1839 q1841 qs60 (by first | assumption | (exact MdL.k0 (by assumption))) am_k13 rfl (C_X13_is hR x1 x2 ha ⟨by decide, by decide⟩ (x_k1 ?_))
        rw [if_neg hno.2.1]
        refine x_if_ne (tgt := 181) dX13_expression_160 rfl (by omega) (fun c160 => ?_) (fun c160 => ?_)
        · first
          | exact absurd rfl c151
          | exact absurd rfl c160
          | exact absurd rfl c169
          | exact absurd rfl c178
        · refine x_aload_0 dX13_expression_163 ?_
          refine x_bipush dX13_expression_164 rfl ?_
          refine x_callV1 dX13_expression_166 rfl okX13_is q1839 q1841 qs60 (by first | assumption | (exact MdL.k0 (by assumption))) am_k13 rfl (C_X13_is hR x1 x2 ha ⟨by decide, by decide⟩ (x_k1 ?_))
          rw [if_neg hno.2.2.1]
          refine x_if_ne (tgt := 181) dX13_expression_169 rfl (by omega) (fun c169 => ?_) (fun c169 => ?_)
          · first
            | exact absurd rfl c151
            | exact absurd rfl c160
            | exact absurd rfl c169
            | exact absurd rfl c178
          · refine x_aload_0 dX13_expression_172 ?_
            refine x_bipush dX13_expression_173 rfl ?_
            refine x_callV1 dX13_expression_175 rfl okX13_is q1839 q1841 qs60 (by first | assumption | (exact MdL.k0 (by assumption))) am_k13 rfl (C_X13_is hR x1 x2 ha ⟨by decide, by decide⟩ (x_k1 ?_))
            rw [if_neg hno.2.2.2]
            refine x_if_eq (tgt := 185) dX13_expression_178 rfl (by omega) (fun c178 => ?_) (fun c178 => ?_)
            · refine x_iconst dX13_expression_185 ?_
              refine x_istore_2 dX13_expression_186 rfl ?_
              refine x_iload_2 dX13_expression_187 ?_
              refine x_if_ne (tgt := 210) dX13_expression_188 rfl (by omega) (fun c188 => ?_) (fun c188 => ?_)
              · exact absurd rfl c188
              · refine x_aload_0 dX13_expression_191 ?_
                refine x_getI_ dX13_expression_192 fl1586_13 (by first | (exact MdL.k0 (by assumption)) | (assumption)) (fun r192 => ?_)
                rw [x3] at r192 ⊢
                refine x_iload_1 dX13_expression_195 ?_
                refine x_icmp_le (tgt := 204) dX13_expression_196 rfl (by omega) (by omega) (fun c196 => ?_) (fun c196 => ?_)
                · first
                  | exact h204
                  | (exfalso; omega)
                · refine x_aload_0 dX13_expression_199 ?_
                  refine x_iconst dX13_expression_200 ?_
                  refine x_callV1 dX13_expression_201 rfl okX13_fail q1851 q1853 qs63 (by first | assumption | (exact MdL.k0 (by assumption))) am_k13 rfl (C_X13_fail hR x1 x2 ha (by decide) (x_k0 ?_))
                  first
                  | exact h204
                  | (exfalso; omega)
            · first
              | exact absurd rfl c151
              | exact absurd rfl c160
              | exact absurd rfl c169
              | exact absurd rfl c178
    · exact absurd rfl c102
end MSTEP
