/-! THE TWIN READS: a law -/
set_option maxRecDepth 100000
section MLAW2
variable {G : am_G} {L : am_L} {h h' h1 h2 h0 : am_H} {o s D N a a0 c c' c0 br br' br0 n p k i3 : Int} {b : Int → Int} {d : Nat} {Q : am_O → am_L → am_H → Prop} {tl tt te : Int → Tau}
theorem tlF12 (hL : MdL L o) (hs : 0 ≤ s ∧ s ≤ 1) (hF : FT h o n p) (hb : h o 41 = br) (hbr : 130 * s ≤ br ∧ br < 130 * s + 130) (kk : ∀ h', FwL h h' o s c br → FT h' o n p → Q (.inl []) L h') : am_X G mX13_tellLaw (d + 7) 12 [aR o, aI k, aI br0, aI i3] [] L h Q := by
  have hf := hF.ty
  have hb1 : am_st h (o + 27) br 0 o 41 = br := by rw [am_st_o (by omega)]; exact hb
  have hF1 : FT (am_st h (o + 27) br 0) o n p := hF.bs (by omega)
  refine x_aload_0 dX13_tellLaw_12 ?_
  refine x_getI_ dX13_tellLaw_13 fl1587_13 (by first | (exact MdL.k0 (by assumption)) | (assumption)) (fun r13 => ?_)
  refine x_if_ne (tgt := 129) dX13_tellLaw_16 rfl (by omega) (fun c16 => ?_) (fun c16 => ?_)
  · refine x_aload_0 dX13_tellLaw_129 ?_
    refine x_getR dX13_tellLaw_130 fl1616_13 rfl (by first | (exact MdL.k0 (by assumption)) | (assumption)) (by first | (exact MdL.v_hasTest (by assumption)) | (assumption)) ?_
    refine x_aload_0 dX13_tellLaw_133 ?_
    refine x_getI_ dX13_tellLaw_134 fl1615_13 (by first | (exact MdL.k0 (by assumption)) | (assumption)) (fun r134 => ?_)
    rw [hb] at r134 ⊢
    refine x_iconst dX13_tellLaw_137 ?_
    refine x_zast_ dX13_tellLaw_138 (by first | (exact MdL.k_hasTest (by assumption)) | (assumption)) (by first | (exact MdL.x_hasTest (by assumption) (by omega) (by omega)) | (omega)) (by omega) ?_
    refine x_aload_0 dX13_tellLaw_139 ?_
    refine x_callV0 dX13_tellLaw_140 rfl okX13_term q1907 q1909 qs77 (by first | assumption | (exact MdL.k0 (by assumption))) am_k13 rfl (C_X13_termF (s := s) (c := c) hL hs hF1 hb1 hbr (fun h' z1 z2 z3 => (x_k0 ?_)))
    have hf2 := z2.ty
    refine x_aload_0 dX13_tellLaw_143 ?_
    refine x_iconst dX13_tellLaw_144 ?_
    refine x_callV1 dX13_tellLaw_145 rfl okX13_must q1863 q1865 qs66 (by first | assumption | (exact MdL.k0 (by assumption))) am_k13 rfl (C_X13_must0 hL hf2 (x_k0 ?_))
    refine x_aload_0 dX13_tellLaw_148 ?_
    refine x_getI_ dX13_tellLaw_149 fl1587_13 (by first | (exact MdL.k0 (by assumption)) | (assumption)) (fun r149 => ?_)
    refine x_if_gt (tgt := 159) dX13_tellLaw_152 rfl (by omega) (fun c152 => ?_) (fun c152 => ?_)
    · refine x_ret dX13_tellLaw_159 rfl ?_
      exact kk _ (((FwL.rf h o s c br).bs (by omega) (by omega)).tr z1 (Int.le_refl _) (Int.le_refl _)) z2
    · exfalso; omega
  · exfalso; omega
theorem tlF120 (hL : MdL L o) (hs : 0 ≤ s ∧ s ≤ 1) (hF : FT h o n p) (hb : h o 41 = br) (hbr : 130 * s ≤ br ∧ br < 130 * s + 130) (kk : ∀ h', FwL h h' o s c br → FT h' o n p → Q (.inl []) L h') : am_X G mX13_tellLaw (d + 7) 120 [aR o, aI k, aI br0, aI i3] [] L h Q := by
  have hf := hF.ty
  refine x_aload_0 dX13_tellLaw_120 ?_
  refine x_bipush dX13_tellLaw_121 rfl ?_
  refine x_callV1 dX13_tellLaw_123 rfl okX13_must q1863 q1865 qs66 (by first | assumption | (exact MdL.k0 (by assumption))) am_k13 rfl (C_X13_must0 hL hf (x_k0 ?_))
  refine x_goto (tgt := 12) dX13_tellLaw_126 rfl ?_
  exact tlF12 hL hs hF hb hbr kk
theorem tlF110 (hL : MdL L o) (hs : 0 ≤ s ∧ s ≤ 1) (hF : FT h o n p) (hb : h o 41 = br) (hbr : 130 * s ≤ br ∧ br < 130 * s + 128) (kk : ∀ h', FwL h h' o s c br → FT h' o n p → Q (.inl []) L h') : am_X G mX13_tellLaw (d + 7) 110 [aR o, aI k, aI br0, aI i3] [] L h Q := by
  have hf := hF.ty
  refine x_aload_0 dX13_tellLaw_110 ?_
  refine x_bipush dX13_tellLaw_111 rfl ?_
  refine x_callV1 dX13_tellLaw_113 rfl okX13_must q1863 q1865 qs66 (by first | assumption | (exact MdL.k0 (by assumption))) am_k13 rfl (C_X13_must0 hL hf (x_k0 ?_))
  refine x_aload_0 dX13_tellLaw_116 ?_
  refine x_callV0 dX13_tellLaw_117 rfl okX13_term q1907 q1909 qs77 (by first | assumption | (exact MdL.k0 (by assumption))) am_k13 rfl (C_X13_termF (s := s) (c := c) hL hs hF hb ⟨hbr.1, by omega⟩ (fun h' z1 z2 z3 => (x_k0 ?_)))
  exact tlF120 hL hs z2 z3 ⟨by omega, by omega⟩ (fun h9 y1 y2 => kk h9 (z1.tr y1 (Int.le_refl _) (by omega)) y2)
theorem tlF86 (hL : MdL L o) (hs : 0 ≤ s ∧ s ≤ 1) (hF : FT h o n p) (hb : h o 41 = br) (hbr : 130 * s ≤ br ∧ br < 130 * s + 128) (kk : ∀ h', FwL h h' o s c br → FT h' o n p → Q (.inl []) L h') : am_X G mX13_tellLaw (d + 7) 86 [aR o, aI k, aI br0, aI i3] [] L h Q := by
  have hf := hF.ty
  refine x_aload_0 dX13_tellLaw_86 ?_
  refine x_getR dX13_tellLaw_87 fl1618_13 rfl (by first | (exact MdL.k0 (by assumption)) | (assumption)) (by first | (exact MdL.v_testMid (by assumption)) | (assumption)) ?_
  refine x_aload_0 dX13_tellLaw_90 ?_
  refine x_getI_ dX13_tellLaw_91 fl1615_13 (by first | (exact MdL.k0 (by assumption)) | (assumption)) (fun r91 => ?_)
  simp (disch := omega) only [am_st_o, hb] at r91 ⊢
  refine x_aload_0 dX13_tellLaw_94 ?_
  refine x_getI_ dX13_tellLaw_95 fl1621_13 (by first | (exact MdL.k0 (by assumption)) | (assumption)) (fun r95 => ?_)
  refine x_iast_ dX13_tellLaw_98 (by first | (exact MdL.k_testMid (by assumption)) | (assumption)) (by first | (exact MdL.x_testMid (by assumption) (by omega) (by omega)) | (omega)) (by omega) ?_
  refine x_aload_0 dX13_tellLaw_99 ?_
  refine x_getI_ dX13_tellLaw_100 fl1587_13 (by first | (exact MdL.k0 (by assumption)) | (assumption)) (fun r100 => ?_)
  simp (disch := omega) only [am_st_o] at r100 ⊢
  refine x_if_ne (tgt := 110) dX13_tellLaw_103 rfl (by omega) (fun c103 => ?_) (fun c103 => ?_)
  · exact tlF110 hL hs (hF.bs (by omega)) (by rw [am_st_o (by omega)]; exact hb) hbr (fun h9 y1 y2 => kk h9 (((FwL.rf h o s c br).bs (by omega) (by omega)).tr y1 (Int.le_refl _) (Int.le_refl _)) y2)
  · exfalso; omega
theorem tlF80 (hL : MdL L o) (hs : 0 ≤ s ∧ s ≤ 1) (hF : FT h o n p) (hb : h o 41 = br) (hbr : 130 * s ≤ br ∧ br < 130 * s + 128) (kk : ∀ h', FwL h h' o s c br → FT h' o n p → Q (.inl []) L h') : am_X G mX13_tellLaw (d + 7) 80 [aR o, aI k, aI br0, aI i3] [] L h Q := by
  have hf := hF.ty
  refine x_aload_0 dX13_tellLaw_80 ?_
  refine x_bipush dX13_tellLaw_81 rfl ?_
  refine x_callV1 dX13_tellLaw_83 rfl okX13_must q1863 q1865 qs66 (by first | assumption | (exact MdL.k0 (by assumption))) am_k13 rfl (C_X13_must0 hL hf (x_k0 ?_))
  exact tlF86 hL hs hF hb hbr kk
theorem tlF53 (hL : MdL L o) (hs : 0 ≤ s ∧ s ≤ 1) (hF : FT h o n p) (hb : h o 41 = br) (hbr : 130 * s ≤ br ∧ br < 130 * s + 128) (kk : ∀ h', FwL h h' o s c br → FT h' o n p → Q (.inl []) L h') : am_X G mX13_tellLaw (d + 7) 53 [aR o, aI k, aI br0, aI i3] [] L h Q := by
  have hf := hF.ty
  refine x_aload_0 dX13_tellLaw_53 ?_
  refine x_getR dX13_tellLaw_54 fl1616_13 rfl (by first | (exact MdL.k0 (by assumption)) | (assumption)) (by first | (exact MdL.v_hasTest (by assumption)) | (assumption)) ?_
  refine x_aload_0 dX13_tellLaw_57 ?_
  refine x_getI_ dX13_tellLaw_58 fl1615_13 (by first | (exact MdL.k0 (by assumption)) | (assumption)) (fun r58 => ?_)
  simp (disch := omega) only [am_st_o, hb] at r58 ⊢
  refine x_iconst dX13_tellLaw_61 ?_
  refine x_zast_ dX13_tellLaw_62 (by first | (exact MdL.k_hasTest (by assumption)) | (assumption)) (by first | (exact MdL.x_hasTest (by assumption) (by omega) (by omega)) | (omega)) (by omega) ?_
  refine x_aload_0 dX13_tellLaw_63 ?_
  refine x_getR dX13_tellLaw_64 fl1617_13 rfl (by first | (exact MdL.k0 (by assumption)) | (assumption)) (by first | (exact MdL.v_testFrom (by assumption)) | (assumption)) ?_
  refine x_aload_0 dX13_tellLaw_67 ?_
  refine x_getI_ dX13_tellLaw_68 fl1615_13 (by first | (exact MdL.k0 (by assumption)) | (assumption)) (fun r68 => ?_)
  simp (disch := omega) only [am_st_o, hb] at r68 ⊢
  refine x_aload_0 dX13_tellLaw_71 ?_
  refine x_getI_ dX13_tellLaw_72 fl1621_13 (by first | (exact MdL.k0 (by assumption)) | (assumption)) (fun r72 => ?_)
  refine x_iast_ dX13_tellLaw_75 (by first | (exact MdL.k_testFrom (by assumption)) | (assumption)) (by first | (exact MdL.x_testFrom (by assumption) (by omega) (by omega)) | (omega)) (by omega) ?_
  refine x_aload_0 dX13_tellLaw_76 ?_
  refine x_callV0 dX13_tellLaw_77 rfl okX13_expression q1891 q1893 qs73 (by first | assumption | (exact MdL.k0 (by assumption))) am_k13 rfl (C_X13_expression0 hL (by rw [am_st_o (by omega), am_st_o (by omega)]; exact hf) (x_k0 ?_))
  exact tlF80 hL hs (((hF.bs (by omega)).bs (by omega)).fl (by omega)) (by rw [am_st_i (by decide), am_st_o (by omega), am_st_o (by omega)]; exact hb) hbr (fun h9 y1 y2 => kk h9 (((((FwL.rf h o s c br).bs (by omega) (by omega)).bs (by omega) (by omega)).st (by omega)).tr y1 (Int.le_refl _) (Int.le_refl _)) y2)
/-- the branches of a law, so far -/
def LwT (h : am_H) (o s br0 n c : Int) (tl tt te : Int → Tau) : Prop := ∀ k, 0 ≤ k → k < n → h (o + 27) (br0 + k) = 1 ∧ (420 * s ≤ h (o + 28) (br0 + k) ∧ h (o + 31) (br0 + k) ≤ c) ∧ SgE h o (h (o + 28) (br0 + k)) (h (o + 29) (br0 + k)) (tl k) ∧ SgE h o (h (o + 29) (br0 + k)) (h (o + 30) (br0 + k)) (tt k) ∧ SgE h o (h (o + 30) (br0 + k)) (h (o + 31) (br0 + k)) (te k)
theorem SgE.fl {a b2 : Int} {ta : Tau} (r : SgE h o a b2 ta) (f : FwL h h' o s c br) (hb : b2 ≤ c) : SgE h' o a b2 ta := by
  obtain ⟨n, r⟩ := r
  exact ⟨n, Seg.cg a b2 (fun i z0 z1 => f.1 i (Or.inl (by omega))) n r (Int.le_refl _) (Int.le_refl _)⟩
theorem LwT.fl (r : LwT h o s br0 n c tl tt te) (f : FwL h h' o s c' br) (hc : c ≤ c') (hb : br0 + n ≤ br) : LwT h' o s br0 n c tl tt te := fun k z0 z1 => by
  obtain ⟨e1, e2, e3, e4, e5⟩ := f.2.1 (br0 + k) (Or.inl (by omega))
  obtain ⟨r1, r2, r3, r4, r5⟩ := r k z0 z1
  have l3 := r3.lt
  have l4 := r4.lt
  have l5 := r5.lt
  rw [e1, e2, e3, e4, e5]
  exact ⟨r1, r2, r3.fl f (by omega), r4.fl f (by omega), r5.fl f (by omega)⟩
theorem LwT.cc (r : LwT h o s br0 n c tl tt te) (hc : c ≤ c') : LwT h o s br0 n c' tl tt te := fun k z0 z1 => by
  obtain ⟨r1, r2, r3⟩ := r k z0 z1
  exact ⟨r1, ⟨r2.1, by omega⟩, r3⟩
theorem SgE.T {a b2 : Int} {ta : Tau} (r : SgE h o a b2 ta) (ha : 420 * s ≤ a) (hb : b2 ≤ 420 * s + 420) : SegT h o s a b2 ta := ⟨ha, hb, r⟩
/-- what a law leaves -/
def lawH (h : am_H) (o s k f l : Int) : am_H := if k < 0 then h else am_st (am_st h (o + 25) (8 * s + k) f) (o + 26) (8 * s + k) l
theorem tlEnd (hs : 0 ≤ s ∧ s ≤ 1) (hR : RdM L h o b D N) (x1 : h o 13 = 0) (x2 : h o 11 = a) (x3 : h o 12 = 0) (x4 : h o 47 = c) (x5 : h o 19 = s) (ha : inN N a) (hc : 420 * s ≤ c ∧ c ≤ 420 * s + a) (hn : 0 ≤ n ∧ n ≤ 4) (hb : h o 41 = br0 + n) (hbr : 130 * s ≤ br0 ∧ br0 < 130 * s + 120) (hk : -1 ≤ k ∧ k ≤ 7) (hT : LwT h o s br0 n c tl tt te) (h28 : sK b D a ≠ 28)
    (kS : ∀ t a' c' h', pS (sK b D) (sV b D) a = .inl (t, a') → sK b D a' = 4 → a' < 400 → a < a' → inN N a' → FwL h h' o s c (br0 + n) → (h' o 13 = 0 ∧ h' o 11 = a' + 1 ∧ h' o 12 = 0 ∧ h' o 47 = c' ∧ h' o 41 = br0 + n + 1) → c' ≤ 420 * s + a' → LwB h' o s br0 (br0 + n + 1) (lamOf n tl tt (upT te n t)) → Q (.inl []) L (lawH h' o s k br0 (br0 + n + 1)))
    (kF : ∀ n9 tk h', rb (pS (sK b D) (sV b D) a) (fun q => pM (sK b D) 4 q.2) = .inr (n9, tk) → FwL h h' o s c (br0 + n) → FT h' o n9 (sP b D tk) → (0 ≤ tk ∧ tk ≤ N) → Q (.inl []) L h') : am_X G mX13_tellLaw (d + 7) 12 [aR o, aI k, aI br0, aI i3] [] L h Q := by
  have hL := hR.ml
  have ha0 := ha.1
  have ha4 := ha.2
  generalize hh1 : am_st h (o + 27) (br0 + n) 0 = h1
  have f1 : FwL h h1 o s c (br0 + n) := by
    rw [← hh1]
    exact (FwL.rf h o s c (br0 + n)).bs (by omega) (by omega)
  have e0 : ∀ j, h1 o j = h o j := fun j => by rw [← hh1, am_st_o (by omega)]
  have e1 : h1 (o + 27) (br0 + n) = 0 := by rw [← hh1, am_st_s]
  have hR1 := hR.fl f1
  have hT1 := hT.fl f1 (Int.le_refl _) (Int.le_refl _)
  have h139 : am_X G mX13_tellLaw (d + 7) 139 [aR o, aI k, aI br0, aI i3] [] L h1 Q := by
    refine x_aload_0 dX13_tellLaw_139 ?_
    refine x_callV0 dX13_tellLaw_140 rfl okX13_term q1907 q1909 qs77 (by first | assumption | (exact MdL.k0 (by assumption))) am_k13 rfl (C_X13_term hs hR1 ((e0 _).trans x1) ((e0 _).trans x2) ((e0 _).trans x3) ((e0 _).trans x4) ha hc ((e0 _).trans hb) ⟨by omega, by omega⟩ (fun t a' c' h2 z1 z2 z3 z4 z5 z6 z7 z8 z9 z10 => (x_k0 ?_)) (fun n9 tk h2 z1 z2 z3 z4 z5 => (x_k0 ?_)))
    · have zz := z3.2
      have zz1 := z3.1
      have g2 := f1.tr z4 (Int.le_refl _) (Int.le_refl _)
      have hR2 := hR.fl g2
      have hsd : h2 o 19 = s := (g2.2.2.2 _ (by decide) (by decide) (by decide) (by decide) (by decide) (by decide) (by decide)).trans x5
      have hT2 := hT1.fl z4 (Int.le_refl _) (Int.le_refl _)
      have hfin : sK b D a' = 4 → a' < 400 → am_X G mX13_tellLaw (d + 7) 148 [aR o, aI k, aI br0, aI i3] [] L (am_st h2 o 11 (a' + 1)) Q := by
        intro y1 y2
        have v1 : am_st h2 o 11 (a' + 1) o 13 = 0 := by rw [am_st_i (by decide)]; exact z5.1
        have v2 : am_st h2 o 11 (a' + 1) o 19 = s := by rw [am_st_i (by decide)]; exact hsd
        have v3 : am_st h2 o 11 (a' + 1) o 41 = br0 + n + 1 := by rw [am_st_i (by decide)]; exact z6
        have hB : LwB (am_st h2 o 11 (a' + 1)) o s br0 (br0 + n + 1) (lamOf n tl tt (upT te n t)) := by
          have w : ∀ y, y ≠ o → am_st h2 o 11 (a' + 1) y = h2 y := fun y q => am_st_o q
          have ws : ∀ {u v : Int} {ta : Tau}, SgE h2 o u v ta → SgE (am_st h2 o 11 (a' + 1)) o u v ta := fun q => by
            obtain ⟨m, q⟩ := q
            refine ⟨m, ?_⟩
            rw [w _ (by omega), w _ (by omega)]
            exact q
          refine ⟨n, tl, tt, upT te n t, hn, by omega, by omega, by omega, rfl, fun k z0 z1 => ?_, fun k z0 z1 => ?_, ?_⟩
          · obtain ⟨r1, r2, r3, r4, r5⟩ := hT2 k z0 z1
            have l3 := r3.lt
            have l4 := r4.lt
            have l5 := r5.lt
            rw [w _ (by omega), w _ (by omega), w _ (by omega), w _ (by omega)]
            exact ⟨r1, (ws r3).T (by omega) (by omega), (ws r4).T (by omega) (by omega)⟩
          · rw [w _ (by omega), w _ (by omega)]
            unfold upT
            by_cases q : k = n
            · subst q
              rw [if_pos rfl, z10.1, z10.2.1]
              exact (ws z7).T (by omega) (by omega)
            · rw [if_neg q]
              obtain ⟨r1, r2, r3, r4, r5⟩ := hT2 k z0 (by omega)
              have l3 := r3.lt
              have l4 := r4.lt
              have l5 := r5.lt
              exact (ws r5).T (by omega) (by omega)
          · rw [w _ (by omega), z10.2.2.1]
            exact e1
        have hQ := kS t a' c' _ z1 y1 y2 z2 z3 (g2.st (j := 11) (v := a' + 1) (by omega)) ⟨v1, am_st_s, by rw [am_st_i (by decide)]; exact z5.2.2.1, by rw [am_st_i (by decide)]; exact z5.2.2.2, v3⟩ z9 hB
        unfold lawH at hQ
        by_cases hk0 : k < 0
        · rw [if_pos hk0] at hQ
          refine x_aload_0 dX13_tellLaw_148 ?_
          refine x_getI_ dX13_tellLaw_149 fl1587_13 (by first | (exact MdL.k0 (by assumption)) | (assumption)) (fun r149 => ?_)
          rw [v1] at r149 ⊢
          refine x_if_gt (tgt := 159) dX13_tellLaw_152 rfl (by omega) (fun c152 => ?_) (fun c152 => ?_)
          · refine x_ret dX13_tellLaw_159 rfl ?_
            first
            | exact hQ
            | exact absurd c152 (by decide)
          · refine x_iload_1 dX13_tellLaw_155 ?_
            refine x_if_ge (tgt := 160) dX13_tellLaw_156 rfl (by omega) (fun c156 => ?_) (fun c156 => ?_)
            · exfalso; omega
            · refine x_ret dX13_tellLaw_159 rfl ?_
              first
              | exact hQ
              | exact absurd c152 (by decide)
        · rw [if_neg hk0] at hQ
          refine x_aload_0 dX13_tellLaw_148 ?_
          refine x_getI_ dX13_tellLaw_149 fl1587_13 (by first | (exact MdL.k0 (by assumption)) | (assumption)) (fun r149 => ?_)
          rw [v1] at r149 ⊢
          refine x_if_gt (tgt := 159) dX13_tellLaw_152 rfl (by omega) (fun c152 => ?_) (fun c152 => ?_)
          · first
            | exact absurd c152 (by decide)
            | (exfalso; omega)
          · refine x_iload_1 dX13_tellLaw_155 ?_
            refine x_if_ge (tgt := 160) dX13_tellLaw_156 rfl (by omega) (fun c156 => ?_) (fun c156 => ?_)
            · refine x_aload_0 dX13_tellLaw_160 ?_
              refine x_getR dX13_tellLaw_161 fl1613_13 rfl (by first | (exact MdL.k0 (by assumption)) | (assumption)) (by first | (exact MdL.v_lawFirst (by assumption)) | (assumption)) ?_
              refine x_bipush dX13_tellLaw_164 rfl ?_
              refine x_aload_0 dX13_tellLaw_166 ?_
              refine x_getI_ dX13_tellLaw_167 fl1593_13 (by first | (exact MdL.k0 (by assumption)) | (assumption)) (fun r167 => ?_)
              simp (disch := omega) only [am_st_o, v2] at r167 ⊢
              refine x_imul dX13_tellLaw_170 ?_
              refine x_iload_1 dX13_tellLaw_171 ?_
              refine x_iadd dX13_tellLaw_172 ?_
              refine x_iload_2 dX13_tellLaw_173 ?_
              refine x_iast_ dX13_tellLaw_174 (by first | (exact MdL.k_lawFirst (by assumption)) | (assumption)) (by first | (exact MdL.x_lawFirst (by assumption) (by omega) (by omega)) | (omega)) (by omega) ?_
              refine x_aload_0 dX13_tellLaw_175 ?_
              refine x_getR dX13_tellLaw_176 fl1614_13 rfl (by first | (exact MdL.k0 (by assumption)) | (assumption)) (by first | (exact MdL.v_lawLast (by assumption)) | (assumption)) ?_
              refine x_bipush dX13_tellLaw_179 rfl ?_
              refine x_aload_0 dX13_tellLaw_181 ?_
              refine x_getI_ dX13_tellLaw_182 fl1593_13 (by first | (exact MdL.k0 (by assumption)) | (assumption)) (fun r182 => ?_)
              simp (disch := omega) only [am_st_o, v2] at r182 ⊢
              refine x_imul dX13_tellLaw_185 ?_
              refine x_iload_1 dX13_tellLaw_186 ?_
              refine x_iadd dX13_tellLaw_187 ?_
              refine x_aload_0 dX13_tellLaw_188 ?_
              refine x_getI_ dX13_tellLaw_189 fl1615_13 (by first | (exact MdL.k0 (by assumption)) | (assumption)) (fun r189 => ?_)
              simp (disch := omega) only [am_st_o, v3] at r189 ⊢
              refine x_iast_ dX13_tellLaw_192 (by first | (exact MdL.k_lawLast (by assumption)) | (assumption)) (by first | (exact MdL.x_lawLast (by assumption) (by omega) (by omega)) | (omega)) (by omega) ?_
              refine x_ret dX13_tellLaw_193 rfl ?_
              exact hQ
            · first
              | exact absurd c152 (by decide)
              | (exfalso; omega)
      have hfl : ∀ n9 p9, FT h2 o n9 p9 → rb (pS (sK b D) (sV b D) a) (fun q => pM (sK b D) 4 q.2) = .inr (n9, a') → True := fun _ _ _ _ => trivial
      have hbad : ∀ n9, (n9 = 1 ∨ n9 = 2) → rb (pS (sK b D) (sV b D) a) (fun q => pM (sK b D) 4 q.2) = .inr (n9, a') → am_X G mX13_tellLaw (d + 7) 148 [aR o, aI k, aI br0, aI i3] [] L (failH h2 o n9 (sP b D a')) Q := by
        intro n9 y1 y2
        have hF := FT.of (h := h2) z5.2.1 ⟨by omega, zz⟩ y1 (sP b D a')
        have hf := hF.ty
        refine x_aload_0 dX13_tellLaw_148 ?_
        refine x_getI_ dX13_tellLaw_149 fl1587_13 (by first | (exact MdL.k0 (by assumption)) | (assumption)) (fun r149 => ?_)
        refine x_if_gt (tgt := 159) dX13_tellLaw_152 rfl (by omega) (fun c152 => ?_) (fun c152 => ?_)
        · refine x_ret dX13_tellLaw_159 rfl ?_
          exact kF n9 a' _ y2 g2.fail hF z3.1
        · exfalso; omega
      refine x_aload_0 dX13_tellLaw_143 ?_
      refine x_iconst dX13_tellLaw_144 ?_
      refine x_callV1 dX13_tellLaw_145 rfl okX13_must q1863 q1865 qs66 (by first | assumption | (exact MdL.k0 (by assumption))) am_k13 rfl (C_X13_must hR2 z5.1 z5.2.1 z3 ⟨by decide, by decide⟩ (fun y1 y2 => (x_k0 ?_)) (fun y1 => (x_k0 ?_)) (fun y1 y2 => (x_k0 ?_)))
      · exact hfin y1 y2
      · exact hbad 1 (Or.inl rfl) (by rw [z1, rb_l]; exact pM_1 y1)
      · exact hbad 2 (Or.inr rfl) (by rw [z1, rb_l]; exact pM_2 y1 y2)
    · have hf := z3.ty
      refine x_aload_0 dX13_tellLaw_143 ?_
      refine x_iconst dX13_tellLaw_144 ?_
      refine x_callV1 dX13_tellLaw_145 rfl okX13_must q1863 q1865 qs66 (by first | assumption | (exact MdL.k0 (by assumption))) am_k13 rfl (C_X13_must0 hL hf (x_k0 ?_))
      refine x_aload_0 dX13_tellLaw_148 ?_
      refine x_getI_ dX13_tellLaw_149 fl1587_13 (by first | (exact MdL.k0 (by assumption)) | (assumption)) (fun r149 => ?_)
      refine x_if_gt (tgt := 159) dX13_tellLaw_152 rfl (by omega) (fun c152 => ?_) (fun c152 => ?_)
      · refine x_ret dX13_tellLaw_159 rfl ?_
        exact kF n9 tk _ (by rw [z1, rb_r]) (f1.tr z2 (Int.le_refl _) (Int.le_refl _)) z3 z4
      · exfalso; omega
  refine x_aload_0 dX13_tellLaw_12 ?_
  refine x_getI_ dX13_tellLaw_13 fl1587_13 (by first | (exact MdL.k0 (by assumption)) | (assumption)) (fun r13 => ?_)
  rw [x1] at r13 ⊢
  refine x_if_ne (tgt := 129) dX13_tellLaw_16 rfl (by omega) (fun c16 => ?_) (fun c16 => ?_)
  · refine x_aload_0 dX13_tellLaw_129 ?_
    refine x_getR dX13_tellLaw_130 fl1616_13 rfl (by first | (exact MdL.k0 (by assumption)) | (assumption)) (by first | (exact MdL.v_hasTest (by assumption)) | (assumption)) ?_
    refine x_aload_0 dX13_tellLaw_133 ?_
    refine x_getI_ dX13_tellLaw_134 fl1615_13 (by first | (exact MdL.k0 (by assumption)) | (assumption)) (fun r134 => ?_)
    rw [hb] at r134 ⊢
    refine x_iconst dX13_tellLaw_137 ?_
    refine x_zast_ dX13_tellLaw_138 (by first | (exact MdL.k_hasTest (by assumption)) | (assumption)) (by first | (exact MdL.x_hasTest (by assumption) (by omega) (by omega)) | (omega)) (by omega) ?_
    first
    | (rw [hh1]; exact h139)
    | exact absurd rfl c16
  · refine x_aload_0 dX13_tellLaw_19 ?_
    refine x_bipush dX13_tellLaw_20 rfl ?_
    refine x_callV1 dX13_tellLaw_22 rfl okX13_is q1839 q1841 qs60 (by first | assumption | (exact MdL.k0 (by assumption))) am_k13 rfl (C_X13_is hR x1 x2 ha ⟨by decide, by decide⟩ (x_k1 ?_))
    rw [if_neg h28]
    refine x_if_eq (tgt := 129) dX13_tellLaw_25 rfl (by omega) (fun c25 => ?_) (fun c25 => ?_)
    · refine x_aload_0 dX13_tellLaw_129 ?_
      refine x_getR dX13_tellLaw_130 fl1616_13 rfl (by first | (exact MdL.k0 (by assumption)) | (assumption)) (by first | (exact MdL.v_hasTest (by assumption)) | (assumption)) ?_
      refine x_aload_0 dX13_tellLaw_133 ?_
      refine x_getI_ dX13_tellLaw_134 fl1615_13 (by first | (exact MdL.k0 (by assumption)) | (assumption)) (fun r134 => ?_)
      rw [hb] at r134 ⊢
      refine x_iconst dX13_tellLaw_137 ?_
      refine x_zast_ dX13_tellLaw_138 (by first | (exact MdL.k_hasTest (by assumption)) | (assumption)) (by first | (exact MdL.x_hasTest (by assumption) (by omega) (by omega)) | (omega)) (by omega) ?_
      first
      | (rw [hh1]; exact h139)
      | exact absurd rfl c16
    · exact absurd rfl c25
end MLAW2
