/-! THREADTOWN READS: a man -/
set_option maxRecDepth 100000
section TMAN
variable {G : am_G} {L L' : am_L} {h h' h2 : am_H} {x t a c e k w D N s id i j : Int} {b : Int → Int} {d : Nat} {Q : am_O → am_L → am_H → Prop} {u u' : PS}
/-- the layout once the man at c is made -/
def lMan (L : am_L) (c s : Int) : am_L := am_pf (am_pf (am_al (am_pf (am_al L 117 6) c 1 (nx L)) 117 6) c 2 (nx L + 1)) c 0 s
theorem lMan_eq (L : am_L) (c s : Int) : lMan L c s = am_pf (am_pf (am_pf (am_al (am_al L 117 6) 117 6) c 1 (nx L)) c 2 (nx L + 1)) c 0 s := rfl
theorem lMan_lb (L : am_L) (h : am_H) : LB L (am_al (am_al L 117 6) 117 6) (nx L) := ((LB.rf L _).al (Int.le_refl _)).al (by rw [nx_al]; omega)
theorem lMan_xt (hc : t ≤ c) (ht : t ≤ nx L) : XT L h (lMan L c s) h x t 1 := by
  refine ⟨?_, ?_, ?_, fun _ _ _ _ => rfl⟩
  · rw [lMan_eq]
    have q : LB L (am_al (am_al L 117 6) 117 6) t := fun y z => lMan_lb L h y (by omega)
    exact ((q.pf hc).pf hc).pf hc
  · unfold lMan
    simp only [nx_pf, nx_al]
    omega
  · unfold lMan
    simp only [us_pf, us_al]
    omega
theorem NwM.of0 (wf : am_Wf L h) (hk : kd L c = 14) (hcn : c < nx L) (hz : ∀ j, fF L c j = 0) (hr : NmL L h s id) : NwM (lMan L c s) h c (nx L) id 0 0 := by
  rw [lMan_eq]
  have hl := lMan_lb L h
  have hkc : kd (am_al (am_al L 117 6) 117 6) c = 14 := (hl c hcn).1.trans hk
  have hz2 : ∀ j, fF (am_al (am_al L 117 6) 117 6) c j = 0 := fun j => ((hl c hcn).2.2 j).trans (hz j)
  have hr2 : NmL (am_al (am_al L 117 6) 117 6) h s id := hr.up wf hl (fun _ _ => rfl)
  have h21 : kd (am_al (am_al L 117 6) 117 6) c ≠ 21 := by omega
  have f0 : fF (am_pf (am_pf (am_pf (am_al (am_al L 117 6) 117 6) c 1 (nx L)) c 2 (nx L + 1)) c 0 s) c 0 = s := pf_eq
  refine ⟨hkc, hcn, ?_, ⟨?_, ?_⟩, ⟨?_, ?_, ?_, ?_, ?_⟩, ⟨?_, ?_⟩, ⟨?_, ?_⟩⟩
  · rw [f0]
    exact ((hr2.pf h21).pf (L := am_pf _ _ _ _) h21).pf (L := am_pf (am_pf _ _ _ _) _ _ _) h21
  · exact (pf_nj (by decide)).trans ((pf_nj (by decide)).trans pf_eq)
  · exact (pf_nj (by decide)).trans pf_eq
  · exact (pf_nj (by decide)).trans ((pf_nj (by decide)).trans ((pf_nj (by decide)).trans (hz2 3)))
  · exact (pf_nj (by decide)).trans ((pf_nj (by decide)).trans ((pf_nj (by decide)).trans (hz2 4)))
  · exact (pf_nj (by decide)).trans ((pf_nj (by decide)).trans ((pf_nj (by decide)).trans (hz2 5)))
  · exact (pf_nj (by decide)).trans ((pf_nj (by decide)).trans ((pf_nj (by decide)).trans (hz2 6)))
  · exact (pf_nj (by decide)).trans ((pf_nj (by decide)).trans ((pf_nj (by decide)).trans (hz2 7)))
  · show kd (am_al (am_al L 117 6) 117 6) (nx L) = 117
    rw [kd_al, if_neg (by rw [nx_al]; omega), kd_al, if_pos rfl]
  · show ln (am_al (am_al L 117 6) 117 6) (nx L) = 6
    rw [ln_al, if_neg (by rw [nx_al]; omega), ln_al, if_pos rfl]
  · show kd (am_al (am_al L 117 6) 117 6) (nx L + 1) = 117
    rw [kd_al, if_pos (by rw [nx_al])]
  · show ln (am_al (am_al L 117 6) 117 6) (nx L + 1) = 6
    rw [ln_al, if_pos (by rw [nx_al])]
theorem NwM.pk {b9 j9 v9 : Int} (r : NwM L h c e id i j) (h1 : b9 ≠ c) (h2 : kd L b9 ≠ 21) : NwM (am_pf L b9 j9 v9) h c e id i j := by
  obtain ⟨r1, r2, r3, r4, r5, r6, r7⟩ := r
  have g : ∀ i, fF (am_pf L b9 j9 v9) c i = fF L c i := fun i => pf_ne (Ne.symm h1)
  refine ⟨r1, r2, ?_, ?_, ?_, r6, r7⟩
  · rw [g]; exact r3.pf h2
  · rw [g, g]; exact r4
  · rw [g, g, g, g, g]; exact r5
theorem NwM.h9 (r : NwM L h c e id i j) (hK : MkL L x) (hh : ∀ y, y ≠ x + 9 → y ≠ x + 1 → h' y = h y) : NwM L h' c e id i j := by
  obtain ⟨r1, r2, ⟨n1, n2, n3, n4, n5, n6, n7⟩, r4⟩ := r
  have q : h' (fF L (fF L c 0) 0) = h (fF L (fF L c 0) 0) := hh _ (by intro z; rw [z, hK.k_parser] at n4; omega) (by intro z; rw [z, hK.k_fault] at n4; omega)
  exact ⟨r1, r2, ⟨n1, n2, n3, n4, n5, by rw [q]; exact n6, by rw [q]; exact n7⟩, r4⟩
theorem TxC.h9 (r : TxC L h t u c) (hK : MkL L x) (hh : ∀ y, y ≠ x + 9 → y ≠ x + 1 → h' y = h y) : TxC L h' t u c := by
  obtain ⟨r0, r3, l, A, E, r1, r2, r4⟩ := r
  refine ⟨r0, r3, l, A, E, r1, ⟨fun m z0 z1 => ⟨(r2.1 m z0 z1).1, ?_⟩, r2.2⟩, r4⟩
  obtain ⟨s1, s2, ⟨n1, n2, n3, n4, n5, n6, n7⟩, s4⟩ := (r2.1 m z0 z1).2
  have q : h' (fF L (fF L (A m) 0) 0) = h (fF L (fF L (A m) 0) 0) := hh _ (by intro z; rw [z, hK.k_parser] at n4; omega) (by intro z; rw [z, hK.k_fault] at n4; omega)
  exact ⟨s1, s2, ⟨n1, n2, n3, n4, n5, by rw [q]; exact n6, by rw [q]; exact n7⟩, s4⟩
theorem TxC.man0 (r : TxC L h t u c) (wf : am_Wf L h) (hk : kd L c = 14) (hcn : c < nx L) : TxC (lMan L c s) h t u c := by
  rw [lMan_eq]
  have hl := lMan_lb L h
  have hkc : kd (am_al (am_al L 117 6) 117 6) c = 14 := (hl c hcn).1.trans hk
  have hok : okTx (am_al (am_al L 117 6) 117 6) c := by unfold okTx; omega
  have h116 : kd (am_al (am_al L 117 6) 117 6) c ≠ 116 := by omega
  have r1 := r.up wf hl (fun _ _ => rfl)
  exact ((r1.pk hok (Int.le_refl _) h116).pk (L := am_pf _ _ _ _) hok (Int.le_refl _) h116).pk (L := am_pf (am_pf _ _ _ _) _ _ _) hok (Int.le_refl _) h116
theorem NwM.p3 {v : Int} (r : NwM L h c e id i j) : NwM (am_pf L c 3 v) h c e id v j := by
  obtain ⟨r1, r2, r3, r4, r5, r6, r7⟩ := r
  refine ⟨r1, r2, ?_, ⟨?_, ?_⟩, ⟨pf_eq, ?_, ?_, ?_, ?_⟩, r6, r7⟩
  · rw [pf_nj (by decide)]; exact r3.pf (by omega)
  · exact (pf_nj (by decide)).trans r4.1
  · exact (pf_nj (by decide)).trans r4.2
  · exact (pf_nj (by decide)).trans r5.2.1
  · exact (pf_nj (by decide)).trans r5.2.2.1
  · exact (pf_nj (by decide)).trans r5.2.2.2.1
  · exact (pf_nj (by decide)).trans r5.2.2.2.2
theorem NwM.p4 {v : Int} (r : NwM L h c e id i j) : NwM (am_pf L c 4 v) h c e id i v := by
  obtain ⟨r1, r2, r3, r4, r5, r6, r7⟩ := r
  refine ⟨r1, r2, ?_, ⟨?_, ?_⟩, ⟨?_, pf_eq, ?_, ?_, ?_⟩, r6, r7⟩
  · rw [pf_nj (by decide)]; exact r3.pf (by omega)
  · exact (pf_nj (by decide)).trans r4.1
  · exact (pf_nj (by decide)).trans r4.2
  · exact (pf_nj (by decide)).trans r5.1
  · exact (pf_nj (by decide)).trans r5.2.2.1
  · exact (pf_nj (by decide)).trans r5.2.2.2.1
  · exact (pf_nj (by decide)).trans r5.2.2.2.2
/-- the man at c comes into the list -/
theorem man178 {tk : Int} (hR : RdX L h x b D N) (hP : PsX h x t a u) (hC : TxC L h t u c) (hW : NwM L h c e id i j) (hcn : c < nx L) (hM : 0 ≤ tM (uT u) ∧ tM (uT u) ≤ 6) (hxt : x + 1205 ≤ t ∧ t < nx L)
    (kQ : ∀ L', XT L h L' h x t 1 → TxP L' h t (uMan u id i j) → Q (.inl []) L' h) : am_X G mX3_told (d + 30) 178 [aR (x + 9), aI w, aR c, aI tk] [] L h Q := by
  have hK := hR.mk
  have hT := hC.tp
  have hC9 := hC
  obtain ⟨r0, r3, l, A, E, s1, s2, s4⟩ := hC9
  have s5 := s1.2.2.2.2.1
  have s6 := s1.lk
  have s7 := s1.2.2.2.2.2.2.1
  have hk7 := hW.1
  have hkt := hT.kt
  have hk20 := s5.1
  have hlt : l ≠ t + 1 := by intro z; rw [z] at s6; omega
  refine am_wf fun wf => ?_
  refine x_aload_0 dX3_told_178 ?_
  refine x_getW dX3_told_179 fl298_3 rfl (by first | (exact MkL.k_parser (by assumption)) | (first | assumption | exact TxP.kt (by assumption) | (simp only [kd_pf, kd_al, nx_pf, nx_al, true_and, and_true]; (repeat (first | rw [if_neg (by omega)] | rw [if_pos (by omega)] | rw [if_pos trivial])); first | done | assumption | rfl))) (by exact hP.1) ?_
  refine x_getR dX3_told_182 fl353_4 rfl (by first | (exact TxL.k0 (by assumption)) | (first | assumption | exact TxP.kt (by assumption) | (simp only [kd_pf, kd_al, nx_pf, nx_al, true_and, and_true]; (repeat (first | rw [if_neg (by omega)] | rw [if_pos (by omega)] | rw [if_pos trivial])); first | done | assumption | rfl))) (by exact hT.f0) ?_
  refine x_aload_2 dX3_told_185 ?_
  refine x_callV1 dX3_told_186 rfl okJ5_add q1021 q1022 q1023 (by first | first | assumption | exact TxP.kt (by assumption) | (simp only [kd_pf, kd_al, nx_pf, nx_al, true_and, and_true]; (repeat (first | rw [if_neg (by omega)] | rw [if_pos (by omega)] | rw [if_pos trivial])); first | done | assumption | rfl) | (exact TxL.kl (by assumption))) am_k20 rfl (C_J5_add (l := l) (m := tM (uT u)) s5.1 (by omega) s5.2.1 s5.2.2.1 s5.2.2.2 (by omega) s6 hk7 ⟨by omega, by omega⟩ hlt (by
rcases s7 with q | q
· exact Or.inl q
· exact Or.inr ⟨by omega, q.2⟩) (fun z9 => (x_k1 ?_)) (fun z9 => (x_k1 ?_)))
  · refine x_pop dX3_told_189 rfl ?_
    refine x_goto (tgt := 400) dX3_told_190 rfl ?_
    refine x_ret dX3_told_400 rfl ?_
    first
    | (obtain ⟨q1, q2, q3⟩ := z9
       subst q2
       exact kQ _ ⟨((((((LB.rf L t).pf (by omega)).al (by rw [nx_pf]; omega)).pf (by omega)).pf (by omega)).pf (by omega)), ⟨by simp only [nx_pf, nx_al]; omega, by simp only [nx_pf, nx_al]; omega⟩, by simp only [us_pf, us_al]; omega, fun _ _ _ _ => rfl⟩ (tx_add1 r0 r3 s1 s2 s4 hW wf hM.1))
    | exact kQ _ (((((XT.rf L h x t).pf (by omega)).pf (by omega)).pf (by omega)).le (by omega)) (tx_add2 r0 r3 s1 s2 s4 hW (by
        rcases s7 with q | q
        · omega
        · exact q))
  · refine x_pop dX3_told_189 rfl ?_
    refine x_goto (tgt := 400) dX3_told_190 rfl ?_
    refine x_ret dX3_told_400 rfl ?_
    first
    | (obtain ⟨q1, q2, q3⟩ := z9
       subst q2
       exact kQ _ ⟨((((((LB.rf L t).pf (by omega)).al (by rw [nx_pf]; omega)).pf (by omega)).pf (by omega)).pf (by omega)), ⟨by simp only [nx_pf, nx_al]; omega, by simp only [nx_pf, nx_al]; omega⟩, by simp only [us_pf, us_al]; omega, fun _ _ _ _ => rfl⟩ (tx_add1 r0 r3 s1 s2 s4 hW wf hM.1))
    | exact kQ _ (((((XT.rf L h x t).pf (by omega)).pf (by omega)).pf (by omega)).le (by omega)) (tx_add2 r0 r3 s1 s2 s4 hW (by
        rcases s7 with q | q
        · omega
        · exact q))
theorem man162 {tk : Int} (hR : RdX L h x b D N) (hP : PsX h x t a u) (hC : TxC L h t u c) (hW : NwM L h c e id i j) (hcn : c < nx L) (hM : 0 ≤ tM (uT u) ∧ tM (uT u) ≤ 6) (hI : PsI u) (hij : (0 ≤ i ∧ i ≤ 10000) ∧ (0 ≤ j ∧ j ≤ 10000) ∧ 0 ≤ tk ∧ tk ≤ 10000) (hxt : x + 1205 ≤ t ∧ t < nx L)
    (kQ : ∀ L', XT L h L' h x t 1 → TxP L' h t (uMan (uCor' u i j tk) id i j) → Q (.inl []) L' h) : am_X G mX3_told (d + 30) 162 [aR (x + 9), aI w, aR c, aI tk] [] L h Q := by
  have hK := hR.mk
  have hT := hC.tp
  have hkt := hT.kt
  have hkc := hW.1
  have hcb := hI.cb
  have hC9 := hC
  obtain ⟨r0, r3, l, A, E, r1, r2, r4⟩ := hC9
  have r19 := r1
  obtain ⟨-, -, -, -, -, -, -, ⟨-, -, c4, c5, c6⟩, -⟩ := r19
  refine x_aload_0 dX3_told_162 ?_
  refine x_getW dX3_told_163 fl298_3 rfl (by first | (exact MkL.k_parser (by assumption)) | (first | assumption | exact TxP.kt (by assumption) | (simp only [kd_pf, kd_al, nx_pf, nx_al, true_and, and_true]; (repeat (first | rw [if_neg (by omega)] | rw [if_pos (by omega)] | rw [if_pos trivial])); first | done | assumption | rfl))) (by exact hP.1) ?_
  refine x_aload_2 dX3_told_166 ?_
  refine x_getKI dX3_told_167 fl989_14 (by first | (exact ManL.k0 (by assumption)) | (first | assumption | exact TxP.kt (by assumption) | (simp only [kd_pf, kd_al, nx_pf, nx_al, true_and, and_true]; (repeat (first | rw [if_neg (by omega)] | rw [if_pos (by omega)] | rw [if_pos trivial])); first | done | assumption | rfl))) (by exact hW.2.2.2.2.1.1) (fun r167 => ?_)
  refine x_aload_2 dX3_told_170 ?_
  refine x_getKI dX3_told_171 fl992_14 (by first | (exact ManL.k0 (by assumption)) | (first | assumption | exact TxP.kt (by assumption) | (simp only [kd_pf, kd_al, nx_pf, nx_al, true_and, and_true]; (repeat (first | rw [if_neg (by omega)] | rw [if_pos (by omega)] | rw [if_pos trivial])); first | done | assumption | rfl))) (by exact hW.2.2.2.2.1.2.1) (fun r171 => ?_)
  refine x_iload_3 dX3_told_174 ?_
  refine x_callV3 dX3_told_175 rfl okX4_notes q1017 q1018 q1019 (by first | first | assumption | exact TxP.kt (by assumption) | (simp only [kd_pf, kd_al, nx_pf, nx_al, true_and, and_true]; (repeat (first | rw [if_neg (by omega)] | rw [if_pos (by omega)] | rw [if_pos trivial])); first | done | assumption | rfl) | (exact TxL.k0 (by assumption))) am_k4 rfl (C_X4_notes r1 r0 (by omega) hij.1 hij.2.1 hij.2.2 (x_k0 ?_))
  have hC7 := hC.note (i1 := i) (i2 := j) (tk := tk)
  have g1 := (XT.rf L h x t).pf (b9 := t + 4) (j9 := uC u) (v9 := i) (by omega)
  have g2 := g1.pf (b9 := t + 5) (j9 := uC u) (v9 := j) (by omega)
  have g3 := g2.pf (b9 := t + 6) (j9 := uC u) (v9 := tk) (by omega)
  have g4 := g3.pf (b9 := t) (j9 := 9) (v9 := uC u + 1) (by omega)
  have w1 : NwM (am_pf L (t + 4) (uC u) i) h c e id i j := hW.pk (by omega) (by omega)
  have w2 : NwM (am_pf (am_pf L (t + 4) (uC u) i) (t + 5) (uC u) j) h c e id i j := w1.pk (by omega) (by show kd L (t + 5) ≠ 21; omega)
  have w3 : NwM (am_pf (am_pf (am_pf L (t + 4) (uC u) i) (t + 5) (uC u) j) (t + 6) (uC u) tk) h c e id i j := w2.pk (by omega) (by show kd L (t + 6) ≠ 21; omega)
  have w4 : NwM (am_pf (am_pf (am_pf (am_pf L (t + 4) (uC u) i) (t + 5) (uC u) j) (t + 6) (uC u) tk) t 9 (uC u + 1)) h c e id i j := w3.pk (by omega) (by show kd L t ≠ 21; omega)
  exact man178 (hR.ut g4 hxt.1) (u := uCor' u i j tk) hP hC7 w4 hcn hM hxt fun L' y1 y2 => kQ L' (g4.tr y1 (by omega)) y2
end TMAN
