/-! THREADTOWN READS: what is told: laws, pillars -/
set_option maxRecDepth 100000
section TOLD2
variable {G : am_G} {L L' : am_L} {h h' h2 : am_H} {x t a c k w D N : Int} {b : Int → Int} {d : Nat} {Q : am_O → am_L → am_H → Prop} {u u' : PS}
theorem TxP.pl (r : TxP L h t u) : fF L t 1 = t + 2 ∧ fF L t 2 = t + 3 ∧ fF L t 8 = tP (uT u) ∧ kd L (t + 2) = 117 ∧ ln L (t + 2) = 6 ∧ kd L (t + 3) = 117 ∧ ln L (t + 3) = 6 ∧ 200 ≤ t ∧ True := by
  obtain ⟨r0, l, A, E, r1, -⟩ := r
  obtain ⟨-, e, f, -, -, -, -, ⟨k2, k3, -⟩, -⟩ := r1
  exact ⟨e.2.1, e.2.2.1, f.2.2.1, k2.1, k2.2, k3.1, k3.2, r0, trivial⟩
theorem PsX.law {a2 : Int} (r : PsX h x t a u) (e : h' (x + 9) 3 = a2) (f : ∀ j, j ≠ 3 → h' (x + 9) j = h (x + 9) j) : PsX h' x t a2 u := by
  obtain ⟨p1, p2, p3, p4, p5⟩ := r
  exact ⟨(f 2 (by decide)).trans p1, e, (f 4 (by decide)).trans p3, (f 5 (by decide)).trans p4, (by rw [f 6 (by decide)]; exact p5)⟩
theorem XT.nt (r : XT L h L' h' x t c) (ht : t < nx L) : t < nx L' := by have := r.2.1; omega
theorem told_long (hR : RdX L h x b D N) (ha : inN N a) (hP : PsX h x t a u) (hT : TxP L h t u) (hxt : x + 1205 ≤ t ∧ t < nx L) (hI : PsI u) (hk : sK b D a = 23) (hQ : ToK L h x t a b D N u Q) : am_X G mX3_told (d + 30) 232 [aR (x + 9), aI w, aU, aU] [] L h Q := by
  obtain ⟨kS, kF⟩ := hQ
  have hK := hR.mk
  have ha0 := ha.1
  have ha4 := ha.2
  have hx := hR.2.1
  have hI0 := hI.1
  have hI1 := hI.2.1
  have hp : pTold (sK b D) (sV b D) (sJ b D) a u = rb (pP a) fun a1 => rb (pLaw (sK b D) (sV b D) a1) fun r => .inl (r.2, uT' u (tLong' (uT u) r.1)) := by
    unfold pTold
    simp only [hk]
    rfl
  refine x_aload_0 dX3_told_232 ?_
  refine x_callV0 dX3_told_233 rfl okX3_pass q764 q766 qs13 (by first | first | assumption | exact TxP.kt (by assumption) | (simp only [kd_pf, kd_al, nx_pf, nx_al, true_and, and_true]; (repeat (first | rw [if_neg (by omega)] | rw [if_pos (by omega)] | rw [if_pos trivial])); first | done | assumption | rfl) | (exact MkL.k_parser (by assumption))) am_k3 rfl (C_X3_pass hR hP.2.1 ha (fun z1 => (x_k0 ?_)) (fun z1 => x_kx ⟨hK.k_fault, kF 2 a _ _ (by rw [hp, pP_2 z1, rb_r]) (((XT.rf L h x t).hh fun y q1 q2 => fltH_o q2).le (by omega)) ha0 ⟨fltH_6, fltH_7⟩⟩))
  rw [pP_ok z1, rb_l] at hp
  have hR1 : RdX L (am_st h (x + 9) 3 (a + 1)) x b D N := hR.st9
  have hP1 : PsX (am_st h (x + 9) 3 (a + 1)) x t (a + 1) u := hP.st
  have hi1 := hR.nx ha (by omega) (by omega) z1
  have hT1 : TxP L (am_st h (x + 9) 3 (a + 1)) t u := hT.h9 hK fun y q1 q2 => am_st_o q1
  have hg1 : XT L h L (am_st h (x + 9) 3 (a + 1)) x t 0 := (XT.rf L h x t).hh fun y q1 q2 => am_st_o q1
  refine x_aload_0 dX3_told_236 ?_
  refine x_getW dX3_told_237 fl298_3 rfl (by first | (exact MkL.k_parser (by assumption)) | (first | assumption | exact TxP.kt (by assumption) | (simp only [kd_pf, kd_al, nx_pf, nx_al, true_and, and_true]; (repeat (first | rw [if_neg (by omega)] | rw [if_pos (by omega)] | rw [if_pos trivial])); first | done | assumption | rfl))) (by exact hP1.1) ?_
  refine x_aload_0 dX3_told_240 ?_
  refine am_wf fun wf => ?_
  refine x_callV0 dX3_told_241 rfl okX3_law q1079 q1081 qs23 (by first | first | assumption | exact TxP.kt (by assumption) | (simp only [kd_pf, kd_al, nx_pf, nx_al, true_and, and_true]; (repeat (first | rw [if_neg (by omega)] | rw [if_pos (by omega)] | rw [if_pos trivial])); first | done | assumption | rfl) | (exact MkL.k_parser (by assumption))) am_k3 rfl (C_X3_law hR1 hP1.2.1 hP1.2.2.1 hi1 (fun la a2 L2 h2 l y1 y2 y3 y4 y5 y6 y7 => (x_k1 ?_)) (fun n tk L2 h2 y1 y2 y3 y4 y5 => x_kx ⟨(hR1.up y2).mk.k_fault, kF n tk _ _ (by rw [hp, y1, rb_r]) ((hg1.tr (y2.xt (by omega)) (Int.le_refl _)).le (by omega)) y3 ⟨y4, y5⟩⟩))
  rw [y1, rb_l] at hp
  have hg2 := hg1.tr (y4.xt (t := t) (by omega)) (Int.le_refl _)
  have hT2 : TxP L2 h2 t u := hT1.xg wf hR1 y4
  have hP2 : PsX h2 x t a2 u := hP1.law y6 y7
  refine x_putFR dX3_told_244 fl380_4 rfl trivial (by first | (exact TxL.k0 (by assumption)) | (first | assumption | exact TxP.kt (by assumption) | (simp only [kd_pf, kd_al, nx_pf, nx_al, true_and, and_true]; (repeat (first | rw [if_neg (by omega)] | rw [if_pos (by omega)] | rw [if_pos trivial])); first | done | assumption | rfl))) (by omega) ?_
  refine x_goto (tgt := 400) dX3_told_247 rfl ?_
  refine x_ret dX3_told_400 rfl ?_
  exact kS a2 _ _ _ hp (by omega) y3 ((hg2.pf (Int.le_refl _)).le (by omega)) (hT2.long y5) hP2
theorem told_goes (hR : RdX L h x b D N) (ha : inN N a) (hP : PsX h x t a u) (hT : TxP L h t u) (hxt : x + 1205 ≤ t ∧ t < nx L) (hI : PsI u) (hk : sK b D a = 22) (hQ : ToK L h x t a b D N u Q) : am_X G mX3_told (d + 30) 193 [aR (x + 9), aI w, aU, aU] [] L h Q := by
  obtain ⟨kS, kF⟩ := hQ
  have hK := hR.mk
  have ha0 := ha.1
  have ha4 := ha.2
  have hx := hR.2.1
  have hI0 := hI.1
  have hI1 := hI.2.1
  have hp : pTold (sK b D) (sV b D) (sJ b D) a u = rb (pP a) fun a1 => rb (pKnown (sK b D) (sJ b D) a1 u) fun q => rb (pLaw (sK b D) (sV b D) q.2.1) fun r => .inl (r.2, if q.1 < 0 then q.2.2 else uT' q.2.2 (tGoes' (uT q.2.2) q.1 r.1)) := by
    unfold pTold
    simp only [hk]
    rfl
  refine x_aload_0 dX3_told_193 ?_
  refine x_callV0 dX3_told_194 rfl okX3_pass q764 q766 qs13 (by first | first | assumption | exact TxP.kt (by assumption) | (simp only [kd_pf, kd_al, nx_pf, nx_al, true_and, and_true]; (repeat (first | rw [if_neg (by omega)] | rw [if_pos (by omega)] | rw [if_pos trivial])); first | done | assumption | rfl) | (exact MkL.k_parser (by assumption))) am_k3 rfl (C_X3_pass hR hP.2.1 ha (fun z1 => (x_k0 ?_)) (fun z1 => x_kx ⟨hK.k_fault, kF 2 a _ _ (by rw [hp, pP_2 z1, rb_r]) (((XT.rf L h x t).hh fun y q1 q2 => fltH_o q2).le (by omega)) ha0 ⟨fltH_6, fltH_7⟩⟩))
  rw [pP_ok z1, rb_l] at hp
  have hR1 : RdX L (am_st h (x + 9) 3 (a + 1)) x b D N := hR.st9
  have hP1 : PsX (am_st h (x + 9) 3 (a + 1)) x t (a + 1) u := hP.st
  have hi1 := hR.nx ha (by omega) (by omega) z1
  have hT1 : TxP L (am_st h (x + 9) 3 (a + 1)) t u := hT.h9 hK fun y q1 q2 => am_st_o q1
  have hg1 : XT L h L (am_st h (x + 9) 3 (a + 1)) x t 0 := (XT.rf L h x t).hh fun y q1 q2 => am_st_o q1
  refine x_aload_0 dX3_told_197 ?_
  refine x_callV0 dX3_told_198 rfl okX3_known q1074 q1076 qs22 (by first | first | assumption | exact TxP.kt (by assumption) | (simp only [kd_pf, kd_al, nx_pf, nx_al, true_and, and_true]; (repeat (first | rw [if_neg (by omega)] | rw [if_pos (by omega)] | rw [if_pos trivial])); first | done | assumption | rfl) | (exact MkL.k_parser (by assumption))) am_k3 rfl (C_X3_known hR1 hi1 hP1 hT1 hI.1 (fun k1 a1 u1 L2 h2 y1 y2 y3 y4 y5 y6 => (x_k1 ?_)) (fun n tk L2 h2 y1 y2 y3 y4 => x_kx ⟨(hR1.up y2).mk.k_fault, kF n tk _ _ (by rw [hp, y1, rb_r]) ((hg1.tr (y2.xt (by omega)) (Int.le_refl _)).le (by omega)) y3 y4⟩))
  rw [y1, rb_l] at hp
  have hn := pKnown_i y1
  have hR2 := hR1.up y4
  have hg2 : XT L h L2 h2 x t 1 := hg1.tr (y4.xt (by omega)) (by omega)
  have hI2 := hI.ts hn.1
  have hK2 := hR2.mk
  have hfd := fdM_rg (u := u) (id := sJ b D (a + 1)) hI.1.1
  have ht1 : tM (uT u1) = tM (uT u) := by rw [hn.1.eq]; rfl
  refine x_istore_2 dX3_told_201 rfl ?_
  refine x_aload_0 dX3_told_202 ?_
  refine am_wf fun wf => ?_
  refine x_callV0 dX3_told_203 rfl okX3_law q1079 q1081 qs23 (by first | first | assumption | exact TxP.kt (by assumption) | (simp only [kd_pf, kd_al, nx_pf, nx_al, true_and, and_true]; (repeat (first | rw [if_neg (by omega)] | rw [if_pos (by omega)] | rw [if_pos trivial])); first | done | assumption | rfl) | (exact MkL.k_parser (by assumption))) am_k3 rfl (C_X3_law hR2 y6.2.1 y6.2.2.1 y3 (fun la a2 L3 h3 l w1 w2 w3 w4 w5 w6 w7 => (x_k1 ?_)) (fun n tk L3 h3 w1 w2 w3 w4 w5 => x_kx ⟨(hR2.up w2).mk.k_fault, kF n tk _ _ (by rw [hp, w1, rb_r]) ((hg2.tr (w2.xt (by have := y4.2.1; omega)) (Int.le_refl _)).le (by omega)) w3 ⟨w4, w5⟩⟩))
  rw [w1, rb_l] at hp
  have hg3 := hg2.tr (w4.xt (t := t) (by have := y4.2.1; omega)) (Int.le_refl _)
  have hT3 : TxP L3 h3 t u1 := y5.xg wf hR2 w4
  have hP3 : PsX h3 x t a2 u1 := y6.law w6 w7
  have hK3 := (hR2.up w4).mk
  have hI20 := hI2.1
  have hk20 := (hT3.ls hI2.1).1
  refine x_astore_3 dX3_told_206 rfl ?_
  refine x_iload_2 dX3_told_207 ?_
  refine x_if_lt (tgt := 400) dX3_told_208 rfl (by omega) (fun c208 => ?_) (fun c208 => ?_)
  · refine x_ret dX3_told_400 rfl ?_
    first
    | (rw [if_neg (by omega)] at hp
       exact kS a2 _ _ _ hp (by omega) w3 ((hg3.pf (b9 := manP L3 t k1) (by omega)).le (by omega)) (hT3.goes (k := k1) (by omega) (by omega) w5) hP3)
    | (rw [if_pos (by omega)] at hp
       exact kS a2 _ _ _ hp (by omega) w3 (hg3.le (by omega)) hT3 hP3)
  · refine x_aload_0 dX3_told_211 ?_
    refine x_getW dX3_told_212 fl298_3 rfl (by first | (exact MkL.k_parser (by assumption)) | (first | assumption | exact TxP.kt (by assumption) | (simp only [kd_pf, kd_al, nx_pf, nx_al, true_and, and_true]; (repeat (first | rw [if_neg (by omega)] | rw [if_pos (by omega)] | rw [if_pos trivial])); first | done | assumption | rfl))) (by exact hP3.1) ?_
    refine x_getR dX3_told_215 fl353_4 rfl (by first | (exact TxL.k0 (by assumption)) | (first | assumption | exact TxP.kt (by assumption) | (simp only [kd_pf, kd_al, nx_pf, nx_al, true_and, and_true]; (repeat (first | rw [if_neg (by omega)] | rw [if_pos (by omega)] | rw [if_pos trivial])); first | done | assumption | rfl))) (by exact hT3.f0) ?_
    refine x_iload_2 dX3_told_218 ?_
    refine x_callV1 dX3_told_219 rfl okJ5_get q1175 q530 q531 (by first | first | assumption | exact TxP.kt (by assumption) | (simp only [kd_pf, kd_al, nx_pf, nx_al, true_and, and_true]; (repeat (first | rw [if_neg (by omega)] | rw [if_pos (by omega)] | rw [if_pos trivial])); first | done | assumption | rfl) | (exact TxL.kl (by assumption))) am_k20 rfl (C_J5_get (hT3.ls hI2.1) ⟨by omega, by omega⟩ (x_k1 ?_))
    refine x_cast dX3_told_222 q789 (by exact (hT3.man (k := k1) (by omega) (by omega)).1) am_k14 ?_
    refine x_aload_3 dX3_told_225 ?_
    have hmn := hT3.man (k := k1) (by omega) (by omega)
    have hmp : t + 6 < manP L3 t k1 := hmn.2.2.1
    have h200 : 200 ≤ fF L3 (fF L3 (t + 1) 1) k1 := by show 200 ≤ manP L3 t k1; omega
    refine x_putFR dX3_told_226 fl999_14 rfl trivial (by exact (hT3.man (k := k1) (by omega) (by omega)).1) (by omega) ?_
    refine x_goto (tgt := 400) dX3_told_229 rfl ?_
    refine x_ret dX3_told_400 rfl ?_
    first
    | (rw [if_neg (by omega)] at hp
       exact kS a2 _ _ _ hp (by omega) w3 ((hg3.pf (b9 := manP L3 t k1) (by omega)).le (by omega)) (hT3.goes (k := k1) (by omega) (by omega) w5) hP3)
    | (rw [if_pos (by omega)] at hp
       exact kS a2 _ _ _ hp (by omega) w3 (hg3.le (by omega)) hT3 hP3)
theorem told_pillar (hR : RdX L h x b D N) (ha : inN N a) (hP : PsX h x t a u) (hT : TxP L h t u) (hxt : x + 1205 ≤ t ∧ t < nx L) (hI : PsI u) (hk : sK b D a = 25) (hQ : ToK L h x t a b D N u Q) : am_X G mX3_told (d + 30) 257 [aR (x + 9), aI w, aU, aU] [] L h Q := by
  obtain ⟨kS, kF⟩ := hQ
  have hK := hR.mk
  have ha0 := ha.1
  have ha4 := ha.2
  have hx := hR.2.1
  have hI0 := hI.1
  have hI1 := hI.2.1
  have hp : pTold (sK b D) (sV b D) (sJ b D) a u = rb (pBeg (tP (uT u)) 6 a) fun a1 => rb (pNum (sK b D) (sV b D) 0 10 a1 u) fun r => rb (pNum (sK b D) (sV b D) 0 10 r.2.1 r.2.2) fun s => .inl (s.2.1, uT' s.2.2 (tPil' (uT s.2.2) r.1 s.1)) := by
    unfold pTold
    simp only [hk]
    rfl
  have hb0 : tP (uT u) = 6 ∨ 400 ≤ a → pBeg (tP (uT u)) 6 a = .inr (2, a) := fun z => by
    unfold pBeg
    split
    · rfl
    · exact pP_2 (by omega)
  have hb1 : tP (uT u) ≠ 6 → a < 400 → pBeg (tP (uT u)) 6 a = .inl (a + 1) := fun z z1 => by
    unfold pBeg
    rw [if_neg z]
    exact pP_ok z1
  obtain ⟨t1, t2, t3, t4, t5, t6, t7, t8, t9⟩ := hT.pl
  have hkt := hT.kt
  refine x_aload_0 dX3_told_257 ?_
  refine x_aload_0 dX3_told_258 ?_
  refine x_getW dX3_told_259 fl298_3 rfl (by first | (exact MkL.k_parser (by assumption)) | (first | assumption | exact TxP.kt (by assumption) | (simp only [kd_pf, kd_al, nx_pf, nx_al, true_and, and_true]; (repeat (first | rw [if_neg (by omega)] | rw [if_pos (by omega)] | rw [if_pos trivial])); first | done | assumption | rfl))) (by exact hP.1) ?_
  refine x_getKI dX3_told_262 fl372_4 (by first | (exact TxL.k0 (by assumption)) | (first | assumption | exact TxP.kt (by assumption) | (simp only [kd_pf, kd_al, nx_pf, nx_al, true_and, and_true]; (repeat (first | rw [if_neg (by omega)] | rw [if_pos (by omega)] | rw [if_pos trivial])); first | done | assumption | rfl))) (by exact t3) (fun r262 => ?_)
  refine x_bipush dX3_told_265 rfl ?_
  refine x_callV2 dX3_told_267 rfl okX3_begins q785 q787 qs17 (by first | first | assumption | exact TxP.kt (by assumption) | (simp only [kd_pf, kd_al, nx_pf, nx_al, true_and, and_true]; (repeat (first | rw [if_neg (by omega)] | rw [if_pos (by omega)] | rw [if_pos trivial])); first | done | assumption | rfl) | (exact MkL.k_parser (by assumption))) am_k3 rfl (C_X3_begins hR hP.2.1 ha (by unfold rg32; omega) (by unfold rg32; omega) (fun z1 => x_kx ⟨hK.k_fault, kF 2 a _ _ (by rw [hp, hb0 (Or.inl z1), rb_r]) (((XT.rf L h x t).hh fun y q1 q2 => fltH_o q2).le (by omega)) ha0 ⟨fltH_6, fltH_7⟩⟩) (fun z0 z1 => (x_k0 ?_)) (fun z0 z1 => x_kx ⟨hK.k_fault, kF 2 a _ _ (by rw [hp, hb0 (Or.inr z1), rb_r]) (((XT.rf L h x t).hh fun y q1 q2 => fltH_o q2).le (by omega)) ha0 ⟨fltH_6, fltH_7⟩⟩))
  rw [hb1 z0 z1, rb_l] at hp
  have hR1 : RdX L (am_st h (x + 9) 3 (a + 1)) x b D N := hR.st9
  have hP1 : PsX (am_st h (x + 9) 3 (a + 1)) x t (a + 1) u := hP.st
  have hi1 := hR.nx ha (by omega) (by omega) z1
  have hT1 : TxP L (am_st h (x + 9) 3 (a + 1)) t u := hT.h9 hK fun y q1 q2 => am_st_o q1
  have hg1 : XT L h L (am_st h (x + 9) 3 (a + 1)) x t 0 := (XT.rf L h x t).hh fun y q1 q2 => am_st_o q1
  refine x_aload_0 dX3_told_270 ?_
  refine x_getW dX3_told_271 fl298_3 rfl (by first | (exact MkL.k_parser (by assumption)) | (first | assumption | exact TxP.kt (by assumption) | (simp only [kd_pf, kd_al, nx_pf, nx_al, true_and, and_true]; (repeat (first | rw [if_neg (by omega)] | rw [if_pos (by omega)] | rw [if_pos trivial])); first | done | assumption | rfl))) (by exact hP1.1) ?_
  refine x_getR dX3_told_274 fl355_4 rfl (by first | (exact TxL.k0 (by assumption)) | (first | assumption | exact TxP.kt (by assumption) | (simp only [kd_pf, kd_al, nx_pf, nx_al, true_and, and_true]; (repeat (first | rw [if_neg (by omega)] | rw [if_pos (by omega)] | rw [if_pos trivial])); first | done | assumption | rfl))) (by exact t1) ?_
  refine x_aload_0 dX3_told_277 ?_
  refine x_getW dX3_told_278 fl298_3 rfl (by first | (exact MkL.k_parser (by assumption)) | (first | assumption | exact TxP.kt (by assumption) | (simp only [kd_pf, kd_al, nx_pf, nx_al, true_and, and_true]; (repeat (first | rw [if_neg (by omega)] | rw [if_pos (by omega)] | rw [if_pos trivial])); first | done | assumption | rfl))) (by exact hP1.1) ?_
  refine x_getKI dX3_told_281 fl372_4 (by first | (exact TxL.k0 (by assumption)) | (first | assumption | exact TxP.kt (by assumption) | (simp only [kd_pf, kd_al, nx_pf, nx_al, true_and, and_true]; (repeat (first | rw [if_neg (by omega)] | rw [if_pos (by omega)] | rw [if_pos trivial])); first | done | assumption | rfl))) (by exact t3) (fun r281 => ?_)
  refine x_aload_0 dX3_told_284 ?_
  refine x_iconst dX3_told_285 ?_
  refine x_bipush dX3_told_286 rfl ?_
  refine x_callV2 dX3_told_288 rfl okX3_number q768 q770 qs14 (by first | first | assumption | exact TxP.kt (by assumption) | (simp only [kd_pf, kd_al, nx_pf, nx_al, true_and, and_true]; (repeat (first | rw [if_neg (by omega)] | rw [if_pos (by omega)] | rw [if_pos trivial])); first | done | assumption | rfl) | (exact MkL.k_parser (by assumption))) am_k3 rfl (C_X3_number hR1 hi1 hP1 (by decide) (by decide) (fun v1 a1 u1 h1 y1 y2 y3 y4 y5 y6 => (x_k1 ?_)) (fun n tk h1 y1 y2 y3 y4 => x_kx ⟨hK.k_fault, kF n tk _ _ (by rw [hp, y1, rb_r]) ((hg1.hh y2).le (by omega)) y3 y4⟩))
  rw [y1, rb_l] at hp
  have hn := pNum_i y1
  refine x_iastK dX3_told_291 (by exact t4) (by omega) (by omega) (by omega) ?_
  have hR2 : RdX (am_pf L (t + 2) (tP (uT u)) v1) h1 x b D N := (hR1.h9 fun y q1 q2 => y5 y q1).pf (by omega)
  have hK2 := hR2.mk
  have hkt2 : kd (am_pf L (t + 2) (tP (uT u)) v1) t = 4 := hkt
  have hg3 := (hg1.hh fun y q1 q2 => y5 y q1).pf (b9 := t + 2) (j9 := tP (uT u)) (v9 := v1) (by omega)
  refine x_aload_0 dX3_told_292 ?_
  refine x_getW dX3_told_293 fl298_3 rfl (by first | (exact MkL.k_parser (by assumption)) | (first | assumption | exact TxP.kt (by assumption) | (simp only [kd_pf, kd_al, nx_pf, nx_al, true_and, and_true]; (repeat (first | rw [if_neg (by omega)] | rw [if_pos (by omega)] | rw [if_pos trivial])); first | done | assumption | rfl))) (by exact y6.1) ?_
  refine x_getR dX3_told_296 fl358_4 rfl (by first | (exact TxL.k0 (by assumption)) | (first | assumption | exact TxP.kt (by assumption) | (simp only [kd_pf, kd_al, nx_pf, nx_al, true_and, and_true]; (repeat (first | rw [if_neg (by omega)] | rw [if_pos (by omega)] | rw [if_pos trivial])); first | done | assumption | rfl))) (by exact (pf_ne (by omega)).trans t2) ?_
  refine x_aload_0 dX3_told_299 ?_
  refine x_getW dX3_told_300 fl298_3 rfl (by first | (exact MkL.k_parser (by assumption)) | (first | assumption | exact TxP.kt (by assumption) | (simp only [kd_pf, kd_al, nx_pf, nx_al, true_and, and_true]; (repeat (first | rw [if_neg (by omega)] | rw [if_pos (by omega)] | rw [if_pos trivial])); first | done | assumption | rfl))) (by exact y6.1) ?_
  refine x_getKI dX3_told_303 fl372_4 (by first | (exact TxL.k0 (by assumption)) | (first | assumption | exact TxP.kt (by assumption) | (simp only [kd_pf, kd_al, nx_pf, nx_al, true_and, and_true]; (repeat (first | rw [if_neg (by omega)] | rw [if_pos (by omega)] | rw [if_pos trivial])); first | done | assumption | rfl))) (by exact (pf_ne (by omega)).trans t3) (fun r303 => ?_)
  refine x_aload_0 dX3_told_306 ?_
  refine x_iconst dX3_told_307 ?_
  refine x_bipush dX3_told_308 rfl ?_
  refine x_callV2 dX3_told_310 rfl okX3_number q768 q770 qs14 (by first | first | assumption | exact TxP.kt (by assumption) | (simp only [kd_pf, kd_al, nx_pf, nx_al, true_and, and_true]; (repeat (first | rw [if_neg (by omega)] | rw [if_pos (by omega)] | rw [if_pos trivial])); first | done | assumption | rfl) | (exact MkL.k_parser (by assumption))) am_k3 rfl (C_X3_number hR2 y3 y6 (by decide) (by decide) (fun v2 a2 u2 h2 w1 w2 w3 w4 w5 w6 => (x_k1 ?_)) (fun n tk h2 w1 w2 w3 w4 => x_kx ⟨hK2.k_fault, kF n tk _ _ (by rw [hp, w1, rb_r]) ((hg3.hh w2).le (by omega)) w3 w4⟩))
  rw [w1, rb_l] at hp
  have hn2 := pNum_i w1
  have hts := hn.1.tr hn2.1
  have hT4 : TxP L h2 t u2 := (hT1.h9 hK fun y q1 q2 => (w5 y q1).trans (y5 y q1)).ts hts
  have etp : tP (uT u2) = tP (uT u) := by rw [hts.eq]; rfl
  have hT5 := hT4.pil (i1 := v1) (i2 := v2)
  rw [etp] at hT5
  refine x_iastK dX3_told_313 (by exact t6) (by omega) (by rw [ln_pf]; omega) (by omega) ?_
  have hK3 : MkL (am_pf (am_pf L (t + 2) (tP (uT u)) v1) (t + 3) (tP (uT u)) v2) x := (hR2.pf (by omega)).mk
  have hkt3 : kd (am_pf (am_pf L (t + 2) (tP (uT u)) v1) (t + 3) (tP (uT u)) v2) t = 4 := hkt
  refine x_aload_0 dX3_told_314 ?_
  refine x_getW dX3_told_315 fl298_3 rfl (by first | (exact MkL.k_parser (by assumption)) | (first | assumption | exact TxP.kt (by assumption) | (simp only [kd_pf, kd_al, nx_pf, nx_al, true_and, and_true]; (repeat (first | rw [if_neg (by omega)] | rw [if_pos (by omega)] | rw [if_pos trivial])); first | done | assumption | rfl))) (by exact w6.1) ?_
  refine x_dup dX3_told_318 rfl ?_
  refine x_getKI dX3_told_319 fl372_4 (by first | (exact TxL.k0 (by assumption)) | (first | assumption | exact TxP.kt (by assumption) | (simp only [kd_pf, kd_al, nx_pf, nx_al, true_and, and_true]; (repeat (first | rw [if_neg (by omega)] | rw [if_pos (by omega)] | rw [if_pos trivial])); first | done | assumption | rfl))) (by exact ((pf_ne (by omega)).trans (pf_ne (by omega))).trans t3) (fun r319 => ?_)
  refine x_iconst dX3_told_322 ?_
  refine x_iadd dX3_told_323 ?_
  refine x_putFI dX3_told_324 fl372_4 (by first | (exact TxL.k0 (by assumption)) | (first | assumption | exact TxP.kt (by assumption) | (simp only [kd_pf, kd_al, nx_pf, nx_al, true_and, and_true]; (repeat (first | rw [if_neg (by omega)] | rw [if_pos (by omega)] | rw [if_pos trivial])); first | done | assumption | rfl))) (by omega) (by omega) ?_
  refine x_goto (tgt := 400) dX3_told_327 rfl ?_
  refine x_ret dX3_told_400 rfl ?_
  exact kS a2 _ _ _ hp (by omega) w3 ((((hg3.hh fun y q1 q2 => w5 y q1).pf (b9 := t + 3) (by omega)).pf (Int.le_refl _)).le (by omega)) hT5 w6
end TOLD2
