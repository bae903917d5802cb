/-! THE TWIN READS: a sum, whole -/
set_option maxRecDepth 100000
section MIND
variable {G : am_G} {L : am_L} {h h' : am_H} {h0 : am_H} {o s c0 base D N a op c w w' m : Int} {b : Int → Int} {d : Nat} {Q : am_O → am_L → am_H → Prop} {t : Tau} {f : Nat}
theorem XFq.mono {r r2 : (Tau × Int) ⊕ (Int × Int)} (x : XFq L Q h0 o s c0 D N b r) (e : ∀ z, r2 = .inr z → r = .inr z) : XFq L Q h0 o s c0 D N b r2 := fun n tk h' z1 z2 z3 z4 => x n tk h' (e _ z1) z2 z3 z4
theorem UQ_s (hs : 0 ≤ s ∧ s ≤ 1) (hb0 : 0 ≤ base) (hc0 : 0 ≤ c0) (hcs : 420 * s ≤ c0) (hSQ : SQ G d L Q h0 o s c0 base D N b f) : UQ G d L Q h0 o s c0 base D N b (f + 1) := by
  intro h a op c w t0 hst hw hrk kS kF
  obtain ⟨g1, g2, hR, ⟨x1, x2, x3, x4, x5⟩, ha, hop, hw0, hcw⟩ := id hst
  have hL := hR.ml
  have ha0 := ha.1
  have ha4 := ha.2
  have hrg : 0 ≤ sK b D a ∧ sK b D a ≤ 36 := tkK_rg b D _
  by_cases q6 : sK b D a = 6
  · refine ex_open hst (by omega) hb0 q6 (fun qo h' z1 z2 => kF 2 a h' ?_ z1 z2 ha.1) (fun qo q4 h' z1 z2 => kF 2 a h' ?_ z1 z2 ha.1) (fun qo q4 h' z1 z2 z3 => ?_)
    · rw [pE, if_neg (by omega), if_neg (by omega), if_neg (by omega), if_pos qo]
    · rw [pE, if_neg (by omega), if_neg (by omega), if_neg (by omega), if_neg (by omega), if_pos q4]
    · have hpE : pE (sK b D) (sV b D) (f + 1) 0 op a t0 = match pE (sK b D) (sV b D) f 3 (op + 1) (a + 1) t0 with
          | .inr e => .inr e
          | .inl q => if sK b D q.2 ≠ 7 then .inr (1, q.2) else if 400 ≤ q.2 then .inr (2, q.2) else .inl (q.1, q.2 + 1) := by
        rw [pE, if_neg (by omega), if_neg (by omega), if_neg (by omega), if_neg (by omega), if_neg (by omega)]
        cases pE (sK b D) (sV b D) f 3 (op + 1) (a + 1) t0 <;> rfl
      refine hSQ h' (a + 1) (op + 1) c (w + 1) t0 z2 (by omega) (Or.inr (by rw [show w + 1 - 1 = w by omega]; exact z3)) (by unfold rkE at hrk ⊢; simp only [if_true, if_false] at hrk ⊢; omega) (fun t a2 c2 w2 h2 y1 y2 y3 y4 y5 y6 => ?_) (kF.mono fun z y => by rw [hpE, y])
      rw [y1] at hpE
      have hle := y6.le
      refine ex_close (w := w + 1) (m := c) hs hc0 hb0 y5 (by omega) ⟨by omega, by omega⟩ g2 ?_ y6 y3 (fun q7 h9 u1 u2 => kF 1 a2 h9 (by rw [hpE]; exact if_pos q7) u1 u2 y5.2.2.2.2.1.1) (fun q7 q4 h9 u1 u2 => kF 2 a2 h9 (by rw [hpE]; exact (if_neg (fun z => z q7)).trans (if_pos q4)) u1 u2 y5.2.2.2.2.1.1) (fun q7 q4 h9 c9 u1 u2 u3 => ?_)
      · rw [y4.2.1 _ (by omega), show w + 1 - 1 = w by omega]
        exact z3
      · rw [show w + 1 - 1 = w by omega] at u1 u2
        rw [show op + 1 - 1 = op by omega] at u2
        exact kS t (a2 + 1) c9 h9 (by rw [hpE]; exact (if_neg (fun z => z q7)).trans (if_neg (by show ¬ 400 ≤ a2; omega))) (by omega) ((z1.tr y4 (Int.le_refl _) (by omega)).tr u1 (Int.le_refl _) (Int.le_refl _)) u2 u3
  · have hcc : 0 ≤ c ∧ c < 840 := ⟨by omega, by omega⟩
    have hbad : ∀ n h', pE (sK b D) (sV b D) (f + 1) 0 op a t0 = .inr (n, a) → FrE h0 h' o s c0 0 → FT h' o n (sP b D a) → Q (.inl []) L h' := fun n h' z1 z2 z3 => kF n a h' z1 z2 z3 ha.1
    have hgood : ∀ k v (tt : Tau), SgE (am_st (emH h o c k v) o 11 (a + 1)) o c (c + 1) tt → pE (sK b D) (sV b D) (f + 1) 0 op a t0 = .inl (tt, a + 1) → sK b D a ≠ 0 → sK b D a ≠ 3 → a < 400 → XE G d L Q o base 96 (am_st (emH h o c k v) o 11 (a + 1)) := fun k v tt z1 z2 z3 z4 z5 => by
      refine kS tt (a + 1) (c + 1) _ z2 (by omega) (((FrE.rf h o s c w).em ⟨Int.le_refl _, by omega⟩).st (by omega)) ⟨(g1.em ⟨g2, by omega⟩).st (by omega), by omega, hR.em.st0, ⟨?_, ?_, ?_, ?_, ?_⟩, hR.nx ha z3 z4 z5, hop, hw0, by omega⟩ z1
      · simp (disch := omega) only [emH, am_st_i, am_st_o, am_st_s]; exact x1
      · simp (disch := omega) only [emH, am_st_i, am_st_o, am_st_s]
      · simp (disch := omega) only [emH, am_st_i, am_st_o, am_st_s]; exact x3
      · simp (disch := omega) only [emH, am_st_i, am_st_o, am_st_s]
      · simp (disch := omega) only [emH, am_st_i, am_st_o, am_st_s]; exact x5
    have hfl : ∀ k v, FrE h0 (failH (emH h o c k v) o 2 (sP b D a)) o s c0 0 ∧ FT (failH (emH h o c k v) o 2 (sP b D a)) o 2 (sP b D a) := fun k v => ⟨(g1.em ⟨g2, by omega⟩).fail, FT.of (by simp (disch := omega) only [emH, am_st_i, am_st_o, am_st_s]; exact x2) ⟨by omega, ha4⟩ (Or.inr rfl) _⟩
    have hfl1 : FrE h0 (failH h o 1 (sP b D a)) o s c0 0 ∧ FT (failH h o 1 (sP b D a)) o 1 (sP b D a) := ⟨g1.fail, FT.of x2 ⟨by omega, ha4⟩ (Or.inl rfl) _⟩
    have e96 : ∀ hh, hh o 13 = 0 → XE G d L Q o base 96 hh → am_X G mX13_expression (d + 5) 88 [aR o, aI base, aI 1] [] L hh Q := by
      intro hh e1 e2
      refine x_aload_0 dX13_expression_88 ?_
      refine x_getI_ dX13_expression_89 fl1587_13 (by first | (exact MdL.k0 (by assumption)) | (assumption)) (fun r89 => ?_)
      rw [e1] at r89 ⊢
      refine x_if_le (tgt := 96) dX13_expression_92 rfl (by omega) (fun c92 => ?_) (fun c92 => ?_)
      · exact e2
      · exact absurd c92 (by decide)
    have eF : ∀ hh, 0 < hh o 13 → Q (.inl []) L hh → am_X G mX13_expression (d + 5) 88 [aR o, aI base, aI 1] [] L hh Q := by
      intro hh e1 e2
      refine x_aload_0 dX13_expression_88 ?_
      refine x_getI_ dX13_expression_89 fl1587_13 (by first | (exact MdL.k0 (by assumption)) | (assumption)) (fun r89 => ?_)
      refine x_if_le (tgt := 96) dX13_expression_92 rfl (by omega) (fun c92 => ?_) (fun c92 => ?_)
      · exfalso; omega
      · refine x_ret dX13_expression_95 rfl ?_
        exact e2
    have hI : sK b D a = 2 → a < 400 → am_X G mX13_expression (d + 5) 88 [aR o, aI base, aI 1] [] L (am_st (emH h o c 0 (sV b D a)) o 11 (a + 1)) Q := fun y1 y2 => by
      refine e96 _ (by simp (disch := omega) only [emH, am_st_i, am_st_o, am_st_s]; exact x1) (hgood 0 _ (fun _ => (sV b D a, 0)) ⟨1, Or.inl ⟨?_, rfl, ?_⟩⟩ (by rw [pE, if_pos y1, if_neg (by omega)]) (by omega) (by omega) y2)
      · simp (disch := omega) only [emH, am_st_i, am_st_o, am_st_s]
      · simp (disch := omega) only [emH, am_st_i, am_st_o, am_st_s]
    have hV : 31 ≤ sK b D a → a < 400 → am_X G mX13_expression (d + 5) 88 [aR o, aI base, aI 1] [] L (am_st (emH h o c 1 (sK b D a - 31)) o 11 (a + 1)) Q := fun y1 y2 => by
      refine e96 _ (by simp (disch := omega) only [emH, am_st_i, am_st_o, am_st_s]; exact x1) (hgood 1 _ (fun v => (v (sK b D a - 31), 0)) ⟨1, Or.inr (Or.inl ⟨?_, ?_, rfl, ?_⟩)⟩ (by rw [pE, if_neg (by omega), if_pos ⟨y1, hrg.2⟩, if_neg (by omega)]) (by omega) (by omega) y2)
      · simp (disch := omega) only [emH, am_st_i, am_st_o, am_st_s]
      · simp (disch := omega) only [emH, am_st_i, am_st_o, am_st_s]; omega
      · simp (disch := omega) only [emH, am_st_i, am_st_o, am_st_s]
    show am_X G mX13_expression (d + 5) 23 [aR o, aI base, aI 1] [] L h Q
    refine x_aload_0 dX13_expression_23 ?_
    refine x_bipush dX13_expression_24 rfl ?_
    refine x_callV1 dX13_expression_26 rfl okX13_is q1839 q1841 qs60 (by first | assumption | (exact MdL.k0 (by assumption))) am_k13 rfl (C_X13_is hR x1 x2 ha ⟨by decide, by decide⟩ (x_k1 ?_))
    rw [if_neg q6]
    refine x_if_eq (tgt := 84) dX13_expression_29 rfl (by omega) (fun c29 => ?_) (fun c29 => ?_)
    · refine x_aload_0 dX13_expression_84 ?_
      refine x_callV0 dX13_expression_85 rfl okX13_unit q1895 q1897 qs74 (by first | assumption | (exact MdL.k0 (by assumption))) am_k13 rfl (C_X13_unit hR x1 x2 ha x4 hcc (fun y1 y2 => (x_k0 ?_)) (fun y1 y2 => (x_k0 ?_)) (fun y1 y2 => (x_k0 ?_)) (fun y1 y2 => (x_k0 ?_)) (fun y1 y2 => (x_k0 ?_)))
      · exact hI y1 y2
      · exact eF _ (hfl _ _).2.ty (hbad 2 _ (by rw [pE, if_pos y1, if_pos y2]) (hfl _ _).1 (hfl _ _).2)
      · exact hV y1 y2
      · exact eF _ (hfl _ _).2.ty (hbad 2 _ (by rw [pE, if_neg (by omega), if_pos ⟨y1, hrg.2⟩, if_pos y2]) (hfl _ _).1 (hfl _ _).2)
      · exact eF _ hfl1.2.ty (hbad 1 _ (by rw [pE, if_neg y1, if_neg (by omega), if_pos q6]) hfl1.1 hfl1.2)
    · exact absurd rfl c29
theorem PQ_s (hs : 0 ≤ s ∧ s ≤ 1) (hU : UQ G d L Q h0 o s c0 base D N b f) (hRQ : RQ G d L Q h0 o s c0 base D N b f) : PQ G d L Q h0 o s c0 base D N b (f + 1) := by
  intro h a op c w t0 hst hw htop hrk kS kF
  obtain ⟨g1, g2, hR, ⟨x1, x2, x3, x4, x5⟩, ha, hop, hw0, hcw⟩ := id hst
  have hpE : pE (sK b D) (sV b D) (f + 1) 1 op a t0 = match pE (sK b D) (sV b D) f 0 op a t0 with
      | .inr e => .inr e
      | .inl q => pE (sK b D) (sV b D) f 2 op q.2 q.1 := by
    rw [pE]
    cases pE (sK b D) (sV b D) f 0 op a t0 <;> rfl
  refine hU h a op c w t0 hst (by omega) (by unfold rkE at hrk ⊢; simp only [if_true, if_false] at hrk ⊢; omega) (fun t a1 c1 h1 y1 y2 y3 y4 y5 => ?_) (kF.mono fun z y => by rw [hpE, y])
  rw [y1] at hpE
  have htop1 : w = 0 ∨ h1 (o + 34) (w - 1) = 6 ∨ h1 (o + 34) (w - 1) = 8 ∨ h1 (o + 34) (w - 1) = 9 := by
    rw [y3.2.1 _ (by omega)]
    exact htop
  refine hRQ h1 a1 op c c1 w w t y4 g2 hw0 hw htop1 (by unfold rkE at hrk ⊢; simp at hrk ⊢; omega) (Or.inl ⟨rfl, y5⟩) (fun t' a2 c2 w2 h2 z1 z2 z3 z4 z5 z6 => ?_) (kF.mono fun z y => by rw [hpE]; exact y)
  exact kS t' a2 c2 w2 h2 (by rw [hpE]; exact z1) (by omega) z3 (y3.tr z4 (Int.le_refl _) (Int.le_refl _)) z5 z6
theorem SQ_s (hs : 0 ≤ s ∧ s ≤ 1) (hP : PQ G d L Q h0 o s c0 base D N b f) (hT : TQ G d L Q h0 o s c0 base D N b f) : SQ G d L Q h0 o s c0 base D N b (f + 1) := by
  intro h a op c w t0 hst hw htop hrk kS kF
  obtain ⟨g1, g2, hR, ⟨x1, x2, x3, x4, x5⟩, ha, hop, hw0, hcw⟩ := id hst
  have hpE : pE (sK b D) (sV b D) (f + 1) 3 op a t0 = match pE (sK b D) (sV b D) f 1 op a t0 with
      | .inr e => .inr e
      | .inl q => pE (sK b D) (sV b D) f 4 op q.2 q.1 := by
    rw [pE]
    cases pE (sK b D) (sV b D) f 1 op a t0 <;> rfl
  refine hP h a op c w t0 hst (by omega) (by omega) (by unfold rkE at hrk ⊢; simp at hrk ⊢; omega) (fun t a1 c1 w1 h1 y1 y2 y3 y4 y5 y6 => ?_) (kF.mono fun z y => by rw [hpE, y])
  rw [y1] at hpE
  have htop1 : w = 0 ∨ h1 (o + 34) (w - 1) = 6 := by
    rw [y4.2.1 _ (by omega)]
    exact htop
  refine hT h1 a1 op c c1 w w1 t y5 g2 hw0 hw htop1 y3 (by unfold rkE at hrk ⊢; simp at hrk ⊢; omega) (Or.inl y6) (fun t' a2 c2 w2 h2 z1 z2 z3 z4 z5 z6 => ?_) (kF.mono fun z y => by rw [hpE]; exact y)
  exact kS t' a2 c2 w2 h2 (by rw [hpE]; exact z1) (by omega) z3 (y4.tr z4 (Int.le_refl _) (Int.le_refl _)) z5 z6
theorem RQ_s (hs : 0 ≤ s ∧ s ≤ 1) (hb0 : 0 ≤ base) (hc0 : 0 ≤ c0) (hU : UQ G d L Q h0 o s c0 base D N b f) (hRQ : RQ G d L Q h0 o s c0 base D N b f) : RQ G d L Q h0 o s c0 base D N b (f + 1) := by
  intro h a op m c w w' t hst hm hw0 hw htop hrk hP kS kF
  obtain ⟨g1, g2, hR, ⟨x1, x2, x3, x4, x5⟩, ha, hop, hw9, hcw⟩ := id hst
  have hL := hR.ml
  have ha0 := ha.1
  have ha4 := ha.2
  have hle := hP.le
  by_cases qk : sK b D a = 10 ∨ sK b D a = 15
  · refine ex_op hR x1 x2 ha (by omega) (if_pos qk).symm ?_
    refine x_start okX13_comesOut rfl rfl rfl rfl ?_
    refine co_P (w := w) (m := m) (d := d + 2) hL (Or.inr rfl) x5 x4 ⟨hw0, by omega⟩ ⟨by omega, hs.1, hs.2, by omega⟩ hP (fun h1 c1 e1 e2 f1 f2 f3 f4 => ?_)
    have hw1 : h1 (o + 34) = h (o + 34) := f1.2.1 (o + 34) (by omega) (by omega) (by omega)
    refine co_stop (w := w) hL (Or.inr rfl) f3 (by omega) (by rw [hw1]; omega) (x_k0 ?_)
    have hst1 : ST L h0 o s c0 base D N b h1 a op c1 w := ⟨g1.tr (f1.fe (w := 0)) g2 (Int.le_refl _), by omega, hR.fe (f1.fe (w := 0)), ⟨(f1.2.2 _ (by decide) (by decide)).trans x1, (f1.2.2 _ (by decide) (by decide)).trans x2, (f1.2.2 _ (by decide) (by decide)).trans x3, f2, f3⟩, ha, hop, hw0, by omega⟩
    refine ex_push hs hst1 (by omega) (fun q4 => ?_) (fun q4 h9 u1 u2 => kF 2 a h9 (by rw [pE, if_pos qk, if_pos q4]) u1 u2 ha.1)
    have hpE : pE (sK b D) (sV b D) (f + 1) 2 op a t = match pE (sK b D) (sV b D) f 0 op (a + 1) t with
        | .inr e => .inr e
        | .inl q => pE (sK b D) (sV b D) f 2 op q.2 (jnT (opK (sK b D a)) t q.1) := by
      rw [pE, if_pos qk, if_neg (by omega)]
      cases pE (sK b D) (sV b D) f 0 op (a + 1) t <;> rfl
    generalize hh2 : am_st (am_st (am_st h1 (o + 34) w (sK b D a)) o 51 (w + 1)) o 11 (a + 1) = h2
    have k2 : FrE h1 h2 o s c1 w := by
      rw [← hh2]
      exact (((FrE.rf h1 o s c1 w).ws (Int.le_refl _)).st (by omega)).st (by omega)
    have kw : h2 (o + 34) w = sK b D a := by
      rw [← hh2]
      simp (disch := omega) only [am_st_i, am_st_o, am_st_s]
    have hst2 : ST L h0 o s c0 base D N b h2 (a + 1) op c1 (w + 1) := by
      refine ⟨hst1.1.tr k2 (by omega) hw0, by omega, hst1.2.2.1.fe k2, ?_, hR.nx ha (by omega) (by omega) q4, hop, by omega, by omega⟩
      rw [← hh2]
      refine ⟨?_, ?_, ?_, ?_, ?_⟩
      · simp (disch := omega) only [am_st_i, am_st_o, am_st_s]; exact hst1.2.2.2.1.1
      · simp (disch := omega) only [am_st_i, am_st_o, am_st_s]
      · simp (disch := omega) only [am_st_i, am_st_o, am_st_s]; exact hst1.2.2.2.1.2.2.1
      · simp (disch := omega) only [am_st_i, am_st_o, am_st_s]; exact f2
      · simp (disch := omega) only [am_st_i, am_st_o, am_st_s]
    have fA : FrE h h2 o s m w := (f1.fe.tr k2 e2 (Int.le_refl _)) |> fun z => ⟨fun i y => z.1 i (by omega), z.2⟩
    refine hU h2 (a + 1) op c1 (w + 1) t hst2 (by omega) (by unfold rkE at hrk ⊢; simp at hrk ⊢; omega) (fun tb a3 c3 h3 y1 y2 y3 y4 y5 => ?_) (kF.mono fun z y => by rw [hpE, y])
    rw [y1] at hpE
    have hlt := f4.lt
    have hkw3 : h3 (o + 34) w = sK b D a := (y3.2.1 _ (by omega)).trans kw
    have htop3 : w = 0 ∨ h3 (o + 34) (w - 1) = 6 ∨ h3 (o + 34) (w - 1) = 8 ∨ h3 (o + 34) (w - 1) = 9 := by
      rw [y3.2.1 _ (by omega), fA.2.1 _ (by omega)]
      exact htop
    have fB : FrE h h3 o s m w := fA.tr y3 (by omega) (by omega)
    refine hRQ h3 a3 op m c3 w (w + 1) (jnT (opK (sK b D a)) t tb) y4 hm hw0 hw htop3 (by unfold rkE at hrk ⊢; simp at hrk ⊢; omega) (Or.inr ⟨sK b D a, c1, t, tb, rfl, hkw3, qk, (f4.fe k2 (Int.le_refl _)).fe y3 (Int.le_refl _), y5, rfl⟩) (fun t' a4 c4 w4 h4 z1 z2 z3 z4 z5 z6 => ?_) (kF.mono fun z y => by rw [hpE]; exact y)
    exact kS t' a4 c4 w4 h4 (by rw [hpE]; exact z1) (by omega) z3 (fB.tr z4 (Int.le_refl _) (Int.le_refl _)) z5 z6
  · exact kS t a c w' h (by rw [pE, if_neg qk]) (Int.le_refl _) ⟨by omega, by omega⟩ (FrE.rf _ _ _ _ _) hst hP
theorem TQ_s (hs : 0 ≤ s ∧ s ≤ 1) (hb0 : 0 ≤ base) (hc0 : 0 ≤ c0) (hPQ : PQ G d L Q h0 o s c0 base D N b f) (hTQ : TQ G d L Q h0 o s c0 base D N b f) : TQ G d L Q h0 o s c0 base D N b (f + 1) := by
  intro h a op m c w w' t hst hm hw0 hw htop hno hrk hP kS kF
  obtain ⟨g1, g2, hR, ⟨x1, x2, x3, x4, x5⟩, ha, hop, hw9, hcw⟩ := id hst
  have hL := hR.ml
  have ha0 := ha.1
  have ha4 := ha.2
  have hle := hP.le
  by_cases qk : sK b D a = 8 ∨ sK b D a = 9
  · refine ex_op hR x1 x2 ha (by omega) (if_neg (by omega)).symm ?_
    refine co_S (w := w) (m := m) (d := d + 2) hL x5 x4 ⟨hw0, by omega⟩ htop ⟨by omega, hs.1, hs.2, by omega⟩ hP (fun h1 c1 e1 e2 f1 f2 f3 f4 => x_k0 ?_)
    have hst1 : ST L h0 o s c0 base D N b h1 a op c1 w := ⟨g1.tr (f1.fe (w := 0)) g2 (Int.le_refl _), by omega, hR.fe (f1.fe (w := 0)), ⟨(f1.2.2 _ (by decide) (by decide)).trans x1, (f1.2.2 _ (by decide) (by decide)).trans x2, (f1.2.2 _ (by decide) (by decide)).trans x3, f2, f3⟩, ha, hop, hw0, by omega⟩
    refine ex_push hs hst1 (by omega) (fun q4 => ?_) (fun q4 h9 u1 u2 => kF 2 a h9 (by rw [pE, if_pos qk, if_pos q4] <;> simp) u1 u2 ha.1)
    have hpE : pE (sK b D) (sV b D) (f + 1) 4 op a t = match pE (sK b D) (sV b D) f 1 op (a + 1) t with
        | .inr e => .inr e
        | .inl q => pE (sK b D) (sV b D) f 4 op q.2 (jnT (opK (sK b D a)) t q.1) := by
      rw [pE, if_pos qk, if_neg (by omega)] <;> first | (cases pE (sK b D) (sV b D) f 1 op (a + 1) t <;> rfl) | simp
    generalize hh2 : am_st (am_st (am_st h1 (o + 34) w (sK b D a)) o 51 (w + 1)) o 11 (a + 1) = h2
    have k2 : FrE h1 h2 o s c1 w := by
      rw [← hh2]
      exact (((FrE.rf h1 o s c1 w).ws (Int.le_refl _)).st (by omega)).st (by omega)
    have kw : h2 (o + 34) w = sK b D a := by
      rw [← hh2]
      simp (disch := omega) only [am_st_i, am_st_o, am_st_s]
    have hst2 : ST L h0 o s c0 base D N b h2 (a + 1) op c1 (w + 1) := by
      refine ⟨hst1.1.tr k2 (by omega) hw0, by omega, hst1.2.2.1.fe k2, ?_, hR.nx ha (by omega) (by omega) q4, hop, by omega, by omega⟩
      rw [← hh2]
      refine ⟨?_, ?_, ?_, ?_, ?_⟩
      · simp (disch := omega) only [am_st_i, am_st_o, am_st_s]; exact hst1.2.2.2.1.1
      · simp (disch := omega) only [am_st_i, am_st_o, am_st_s]
      · simp (disch := omega) only [am_st_i, am_st_o, am_st_s]; exact hst1.2.2.2.1.2.2.1
      · simp (disch := omega) only [am_st_i, am_st_o, am_st_s]; exact f2
      · simp (disch := omega) only [am_st_i, am_st_o, am_st_s]
    have fA : FrE h h2 o s m w := (f1.fe.tr k2 e2 (Int.le_refl _)) |> fun z => ⟨fun i y => z.1 i (by omega), z.2⟩
    refine hPQ h2 (a + 1) op c1 (w + 1) t hst2 (by omega) (by rw [show w + 1 - 1 = w by omega, kw]; omega) (by unfold rkE at hrk ⊢; simp at hrk ⊢; omega) (fun tb a3 c3 w3 h3 y1 y2 y3 y4 y5 y6 => ?_) (kF.mono fun z y => by rw [hpE, y])
    rw [y1] at hpE
    have hkw3 : h3 (o + 34) w = sK b D a := (y4.2.1 _ (by omega)).trans kw
    have htop3 : w = 0 ∨ h3 (o + 34) (w - 1) = 6 := by
      rw [y4.2.1 _ (by omega), fA.2.1 _ (by omega)]
      exact htop
    have fB : FrE h h3 o s m w := fA.tr y4 (by have := f4.lt; omega) (by omega)
    refine hTQ h3 a3 op m c3 w w3 (jnT (opK (sK b D a)) t tb) y5 hm hw0 hw htop3 y3 (by unfold rkE at hrk ⊢; simp at hrk ⊢; omega) (Or.inr ⟨sK b D a, c1, t, tb, hkw3, qk, (f4.fe k2 (Int.le_refl _)).fe y4 (Int.le_refl _), y6, rfl⟩) (fun t' a4 c4 w4 h4 z1 z2 z3 z4 z5 z6 => ?_) (kF.mono fun z y => by rw [hpE]; exact y)
    exact kS t' a4 c4 w4 h4 (by rw [hpE]; exact z1) (by omega) z3 (fB.tr z4 (Int.le_refl _) (Int.le_refl _)) z5 z6
  · exact kS t a c w' h (by rw [pE, if_neg qk] <;> simp) (Int.le_refl _) ⟨by omega, by omega, hno.1, hno.2⟩ (FrE.rf _ _ _ _ _) hst hP
theorem EQ_all (hs : 0 ≤ s ∧ s ≤ 1) (hb0 : 0 ≤ base) (hc0 : 0 ≤ c0) (hcs : 420 * s ≤ c0) : ∀ f : Nat, UQ G d L Q h0 o s c0 base D N b f ∧ PQ G d L Q h0 o s c0 base D N b f ∧ RQ G d L Q h0 o s c0 base D N b f ∧ SQ G d L Q h0 o s c0 base D N b f ∧ TQ G d L Q h0 o s c0 base D N b f
  | 0 => by
    have key : ∀ m a, a ≤ 400 → ¬ rkE m a < ((0 : Nat) : Int) := fun m a h z => by
      unfold rkE at z
      (repeat' split at z) <;> omega
    exact ⟨fun h a op c w t0 hst hw hrk => absurd hrk (key _ _ hst.2.2.2.2.1.2), fun h a op c w t0 hst hw ht hrk => absurd hrk (key _ _ hst.2.2.2.2.1.2), fun h a op m c w w' t hst h1 h2 h3 h4 hrk => absurd hrk (key _ _ hst.2.2.2.2.1.2), fun h a op c w t0 hst hw ht hrk => absurd hrk (key _ _ hst.2.2.2.2.1.2), fun h a op m c w w' t hst h1 h2 h3 h4 h5 hrk => absurd hrk (key _ _ hst.2.2.2.2.1.2)⟩
  | f + 1 => by
    obtain ⟨iU, iP, iR, iS, iT⟩ := EQ_all hs hb0 hc0 hcs f
    exact ⟨UQ_s hs hb0 hc0 hcs iS, PQ_s hs iU iR, RQ_s hs hb0 hc0 iU iR, SQ_s hs iP iT, TQ_s hs hb0 hc0 iP iT⟩
end MIND
