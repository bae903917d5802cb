/-! THREADTOWN READS: what is told -/
set_option maxRecDepth 100000
section TOLD
variable {G : am_G} {L L' : am_L} {h h' h2 : am_H} {x t a c k w D N : Int} {b : Int → Int} {d : Nat} {Q : am_O → am_L → am_H → Prop} {u u' : PS}
theorem RdX.h9 (r : RdX L h x b D N) (hh : ∀ y, y ≠ x + 9 → y ≠ x + 1 → h' y = h y) : RdX L h' x b D N := r.up ((XG.rf L h x).hh hh)
theorem TxP.f0 (r : TxP L h t u) : fF L t 0 = t + 1 := by
  obtain ⟨r0, l, A, E, r1, -⟩ := r
  exact r1.2.1.1
theorem TxP.h9 (r : TxP L h t u) (hK : MkL L x) (hh : ∀ y, y ≠ x + 9 → y ≠ x + 1 → h' y = h y) : TxP L h' t u := r.hh fun y q => hh y (by intro z; rw [z, hK.k_parser] at q; omega) (by intro z; rw [z, hK.k_fault] at q; omega)
theorem TxP.xg (r : TxP L h t u) (wf : am_Wf L h) (hR : RdX L h x b D N) (g : XG L h L' h' x c) : TxP L' h' t u := by
  have h1 : TxP L' (fun y => if y = x + 9 ∨ y = x + 1 then h y else h' y) t u := r.up wf g.1 fun y z => by
    split
    · rfl
    · exact g.2.2.2 y z (by omega) (by omega)
  refine h1.h9 (hR.up g).mk fun y q1 q2 => ?_
  rw [if_neg (by omega)]
theorem PsX.st (r : PsX h x t a u) : PsX (am_st h (x + 9) 3 (a + 1)) x t (a + 1) u := by
  obtain ⟨p1, p2, p3, p4, p5⟩ := r
  exact ⟨by rw [am_st_i (by decide)]; exact p1, am_st_s, by rw [am_st_i (by decide)]; exact p3, by rw [am_st_i (by decide)]; exact p4, by rw [am_st_i (by decide)]; exact p5⟩
/-- the run is told to go on behind the order at token a -/
def ToK (L : am_L) (h : am_H) (x t a : Int) (b : Int → Int) (D N : Int) (u : PS) (Q : am_O → am_L → am_H → Prop) : Prop :=
  (∀ a' u' L' h', pTold (sK b D) (sV b D) (sJ b D) a u = .inl (a', u') → a < a' → inN N a' → XT L h L' h' x t (a' - a) → TxP L' h' t u' → PsX h' x t a' u' → Q (.inl []) L' h') ∧
  ∀ n tk L' h', pTold (sK b D) (sV b D) (sJ b D) a u = .inr (n, tk) → XT L h L' h' x t (401 - a) → (0 ≤ tk ∧ tk ≤ N) → FX1 h' x b D n tk → Q (.inr (x + 1)) L' h'
theorem told_seed (hR : RdX L h x b D N) (ha : inN N a) (hP : PsX h x t a u) (hT : TxP L h t u) (hxt : x + 1205 ≤ t ∧ t < nx L) (hk : sK b D a = 27) (hQ : ToK L h x t a b D N u Q) : am_X G mX3_told (d + 30) 372 [aR (x + 9), aI w, aU, aU] [] L h Q := by
  obtain ⟨kS, kF⟩ := hQ
  have hK := hR.mk
  have ha0 := ha.1
  have ha4 := ha.2
  have hx := hR.2.1
  have hp : pTold (sK b D) (sV b D) (sJ b D) a u = rb (pP a) fun a1 => rb (pNum (sK b D) (sV b D) 0 9999 a1 u) fun r => .inl (r.2.1, uT' r.2.2 (tSeed' (uT r.2.2) r.1)) := by
    unfold pTold
    simp only [hk]
    rfl
  refine x_aload_0 dX3_told_372 ?_
  refine x_callV0 dX3_told_373 rfl okX3_pass q764 q766 qs13 (by first | first | assumption | exact TxP.kt (by assumption) | (simp only [kd_pf, kd_al, nx_pf, nx_al, true_and, and_true]; (repeat (first | rw [if_neg (by omega)] | rw [if_pos (by omega)] | rw [if_pos trivial])); first | done | assumption | rfl) | (exact MkL.k_parser (by assumption))) am_k3 rfl (C_X3_pass hR hP.2.1 ha (fun z1 => (x_k0 ?_)) (fun z1 => x_kx ⟨hK.k_fault, kF 2 a _ _ (by rw [hp, pP_2 z1, rb_r]) (((XT.rf L h x t).hh fun y q1 q2 => fltH_o q2).le (by omega)) ha0 ⟨fltH_6, fltH_7⟩⟩))
  rw [pP_ok z1, rb_l] at hp
  have hR1 : RdX L (am_st h (x + 9) 3 (a + 1)) x b D N := hR.st9
  have hP1 : PsX (am_st h (x + 9) 3 (a + 1)) x t (a + 1) u := hP.st
  have hi1 := hR.nx ha (by omega) (by omega) z1
  refine x_aload_0 dX3_told_376 ?_
  refine x_getW dX3_told_377 fl298_3 rfl (by first | (exact MkL.k_parser (by assumption)) | (first | assumption | exact TxP.kt (by assumption) | (simp only [kd_pf, kd_al, nx_pf, nx_al, true_and, and_true]; (repeat (first | rw [if_neg (by omega)] | rw [if_pos (by omega)] | rw [if_pos trivial])); first | done | assumption | rfl))) (by exact hP1.1) ?_
  refine x_aload_0 dX3_told_380 ?_
  refine x_iconst dX3_told_381 ?_
  refine x_sipush dX3_told_382 rfl ?_
  refine x_callV2 dX3_told_385 rfl okX3_number q768 q770 qs14 (by first | first | assumption | exact TxP.kt (by assumption) | (simp only [kd_pf, kd_al, nx_pf, nx_al, true_and, and_true]; (repeat (first | rw [if_neg (by omega)] | rw [if_pos (by omega)] | rw [if_pos trivial])); first | done | assumption | rfl) | (exact MkL.k_parser (by assumption))) am_k3 rfl (C_X3_number hR1 hi1 hP1 (by decide) (by decide) (fun v1 a1 u1 h1 y1 y2 y3 y4 y5 y6 => (x_k1 ?_)) (fun n tk h1 y1 y2 y3 y4 => x_kx ⟨hK.k_fault, kF n tk _ _ (by rw [hp, y1, rb_r]) (((XT.rf L h x t).hh fun y q1 q2 => (y2 y q1 q2).trans (am_st_o q1)).le (by omega)) y3 y4⟩))
  rw [y1, rb_l] at hp
  have hn := pNum_i y1
  have hT1 : TxP L h1 t u1 := (hT.h9 hK fun y q1 q2 => (y5 y q1).trans (am_st_o q1)).ts hn.1
  refine x_putFI dX3_told_388 fl378_4 (by first | (exact TxL.k0 (by assumption)) | (first | assumption | exact TxP.kt (by assumption) | (simp only [kd_pf, kd_al, nx_pf, nx_al, true_and, and_true]; (repeat (first | rw [if_neg (by omega)] | rw [if_pos (by omega)] | rw [if_pos trivial])); first | done | assumption | rfl))) (by omega) (by omega) ?_
  refine x_goto (tgt := 400) dX3_told_391 rfl ?_
  refine x_ret dX3_told_400 rfl ?_
  exact kS a1 _ _ _ hp (by omega) y3 ((((XT.rf L h x t).hh fun y q1 q2 => (y5 y q1).trans (am_st_o q1)).pf (Int.le_refl _)).le (by omega)) (hT1.ft (u' := uT' u1 (tSeed' (uT u1) v1)) (by decide) rfl rfl rfl rfl (if_neg (by decide)).symm (if_neg (by decide)).symm (if_pos rfl).symm (by decide) ⟨rfl, rfl⟩ ⟨rfl, rfl, rfl⟩ (fun A E m z => z)) y6
theorem told_wide (hR : RdX L h x b D N) (ha : inN N a) (hP : PsX h x t a u) (hT : TxP L h t u) (hxt : x + 1205 ≤ t ∧ t < nx L) (hI : PsI u) (hk : sK b D a = 20) (hQ : ToK L h x t a b D N u Q) : am_X G mX3_told (d + 30) 72 [aR (x + 9), aI w, aU, aU] [] L h Q := by
  obtain ⟨kS, kF⟩ := hQ
  have hK := hR.mk
  have ha0 := ha.1
  have ha4 := ha.2
  have hx := hR.2.1
  have hp : pTold (sK b D) (sV b D) (sJ b D) a u = rb (pP a) fun a1 => rb (pNum (sK b D) (sV b D) 2 12 a1 u) fun q => rb (pNum (sK b D) (sV b D) 2 12 q.2.1 q.2.2) fun r => .inl (r.2.1, uT' r.2.2 (tDeep' (tWide' (uT r.2.2) q.1) r.1)) := by
    unfold pTold
    simp only [hk]
    rfl
  refine x_aload_0 dX3_told_72 ?_
  refine x_callV0 dX3_told_73 rfl okX3_pass q764 q766 qs13 (by first | first | assumption | exact TxP.kt (by assumption) | (simp only [kd_pf, kd_al, nx_pf, nx_al, true_and, and_true]; (repeat (first | rw [if_neg (by omega)] | rw [if_pos (by omega)] | rw [if_pos trivial])); first | done | assumption | rfl) | (exact MkL.k_parser (by assumption))) am_k3 rfl (C_X3_pass hR hP.2.1 ha (fun z1 => (x_k0 ?_)) (fun z1 => x_kx ⟨hK.k_fault, kF 2 a _ _ (by rw [hp, pP_2 z1, rb_r]) (((XT.rf L h x t).hh fun y q1 q2 => fltH_o q2).le (by omega)) ha0 ⟨fltH_6, fltH_7⟩⟩))
  rw [pP_ok z1, rb_l] at hp
  have hR1 : RdX L (am_st h (x + 9) 3 (a + 1)) x b D N := hR.st9
  have hP1 : PsX (am_st h (x + 9) 3 (a + 1)) x t (a + 1) u := hP.st
  have hi1 := hR.nx ha (by omega) (by omega) z1
  have hT1 : TxP L (am_st h (x + 9) 3 (a + 1)) t u := hT.h9 hK fun y q1 q2 => am_st_o q1
  have hg1 : XT L h L (am_st h (x + 9) 3 (a + 1)) x t 0 := (XT.rf L h x t).hh fun y q1 q2 => am_st_o q1
  refine x_aload_0 dX3_told_76 ?_
  refine x_getW dX3_told_77 fl298_3 rfl (by first | (exact MkL.k_parser (by assumption)) | (first | assumption | exact TxP.kt (by assumption) | (simp only [kd_pf, kd_al, nx_pf, nx_al, true_and, and_true]; (repeat (first | rw [if_neg (by omega)] | rw [if_pos (by omega)] | rw [if_pos trivial])); first | done | assumption | rfl))) (by exact hP1.1) ?_
  refine x_aload_0 dX3_told_80 ?_
  refine x_iconst dX3_told_81 ?_
  refine x_bipush dX3_told_82 rfl ?_
  refine x_callV2 dX3_told_84 rfl okX3_number q768 q770 qs14 (by first | first | assumption | exact TxP.kt (by assumption) | (simp only [kd_pf, kd_al, nx_pf, nx_al, true_and, and_true]; (repeat (first | rw [if_neg (by omega)] | rw [if_pos (by omega)] | rw [if_pos trivial])); first | done | assumption | rfl) | (exact MkL.k_parser (by assumption))) am_k3 rfl (C_X3_number hR1 hi1 hP1 (by decide) (by decide) (fun v1 a1 u1 h1 y1 y2 y3 y4 y5 y6 => (x_k1 ?_)) (fun n tk h1 y1 y2 y3 y4 => x_kx ⟨hK.k_fault, kF n tk _ _ (by rw [hp, y1, rb_r]) ((hg1.hh y2).le (by omega)) y3 y4⟩))
  rw [y1, rb_l] at hp
  have hn := pNum_i y1
  have hT2 : TxP L h1 t u1 := (hT1.h9 hK fun y q1 q2 => y5 y q1).ts hn.1
  have hg2 : XT L h L h1 x t 0 := hg1.hh fun y q1 q2 => y5 y q1
  refine x_putFI dX3_told_87 fl367_4 (by first | (exact TxL.k0 (by assumption)) | (first | assumption | exact TxP.kt (by assumption) | (simp only [kd_pf, kd_al, nx_pf, nx_al, true_and, and_true]; (repeat (first | rw [if_neg (by omega)] | rw [if_pos (by omega)] | rw [if_pos trivial])); first | done | assumption | rfl))) (by omega) (by omega) ?_
  have hR2 : RdX (am_pf L t 6 v1) h1 x b D N := (hR1.h9 fun y q1 q2 => y5 y q1).pf hxt.1
  have hT3 : TxP (am_pf L t 6 v1) h1 t (uT' u1 (tWide' (uT u1) v1)) := hT2.ft (u' := uT' u1 (tWide' (uT u1) v1)) (by decide) rfl rfl rfl rfl (if_pos rfl).symm (if_neg (by decide)).symm (if_neg (by decide)).symm (by decide) ⟨rfl, rfl⟩ ⟨rfl, rfl, rfl⟩ (fun A E m z => z)
  have hK2 := hR2.mk
  have hg3 := hg2.pf (b9 := t) (j9 := 6) (v9 := v1) (Int.le_refl _)
  refine x_aload_0 dX3_told_90 ?_
  refine x_getW dX3_told_91 fl298_3 rfl (by first | (exact MkL.k_parser (by assumption)) | (first | assumption | exact TxP.kt (by assumption) | (simp only [kd_pf, kd_al, nx_pf, nx_al, true_and, and_true]; (repeat (first | rw [if_neg (by omega)] | rw [if_pos (by omega)] | rw [if_pos trivial])); first | done | assumption | rfl))) (by exact y6.1) ?_
  refine x_aload_0 dX3_told_94 ?_
  refine x_iconst dX3_told_95 ?_
  refine x_bipush dX3_told_96 rfl ?_
  refine x_callV2 dX3_told_98 rfl okX3_number q768 q770 qs14 (by first | first | assumption | exact TxP.kt (by assumption) | (simp only [kd_pf, kd_al, nx_pf, nx_al, true_and, and_true]; (repeat (first | rw [if_neg (by omega)] | rw [if_pos (by omega)] | rw [if_pos trivial])); first | done | assumption | rfl) | (exact MkL.k_parser (by assumption))) am_k3 rfl (C_X3_number hR2 y3 y6 (by decide) (by decide) (fun v2 a2 u2 h2 w1 w2 w3 w4 w5 w6 => (x_k1 ?_)) (fun n tk h2 w1 w2 w3 w4 => x_kx ⟨hR2.mk.k_fault, kF n tk _ _ (by rw [hp, w1, rb_r]) ((hg3.hh w2).le (by omega)) w3 w4⟩))
  rw [w1, rb_l] at hp
  have hn2 := pNum_i w1
  have hT4 : TxP (am_pf L t 6 v1) h2 t (uT' u2 (tWide' (uT u2) v1)) := by
    rw [hn2.1.eq]
    exact hT3.h9 hR2.mk fun y q1 q2 => w5 y q1
  refine x_putFI dX3_told_101 fl370_4 (by first | (exact TxL.k0 (by assumption)) | (first | assumption | exact TxP.kt (by assumption) | (simp only [kd_pf, kd_al, nx_pf, nx_al, true_and, and_true]; (repeat (first | rw [if_neg (by omega)] | rw [if_pos (by omega)] | rw [if_pos trivial])); first | done | assumption | rfl))) (by omega) (by omega) ?_
  refine x_goto (tgt := 400) dX3_told_104 rfl ?_
  refine x_ret dX3_told_400 rfl ?_
  exact kS a2 _ _ _ hp (by omega) w3 (((hg3.hh fun y q1 q2 => w5 y q1).pf (Int.le_refl _)).le (by omega)) (hT4.ft (u' := uT' u2 (tDeep' (tWide' (uT u2) v1) v2)) (by decide) rfl rfl rfl rfl (if_neg (by decide)).symm (if_pos rfl).symm (if_neg (by decide)).symm (by decide) ⟨rfl, rfl⟩ ⟨rfl, rfl, rfl⟩ (fun A E m z => z)) w6
theorem told_dye (hR : RdX L h x b D N) (ha : inN N a) (hP : PsX h x t a u) (hT : TxP L h t u) (hxt : x + 1205 ≤ t ∧ t < nx L) (hI : PsI u) (hk : sK b D a = 26) (hQ : ToK L h x t a b D N u Q) : am_X G mX3_told (d + 30) 330 [aR (x + 9), aI w, aU, aU] [] L h Q := by
  obtain ⟨kS, kF⟩ := hQ
  have hK := hR.mk
  have ha0 := ha.1
  have ha4 := ha.2
  have hx := hR.2.1
  have hp : pTold (sK b D) (sV b D) (sJ b D) a u = rb (pP a) fun a1 => rb (pKnown (sK b D) (sJ b D) a1 u) fun q => rb (pNum (sK b D) (sV b D) 0 9 q.2.1 q.2.2) fun r => .inl (r.2.1, if q.1 < 0 then r.2.2 else uT' r.2.2 (tDye' (uT r.2.2) q.1 r.1)) := by
    unfold pTold
    simp only [hk]
    rfl
  refine x_aload_0 dX3_told_330 ?_
  refine x_callV0 dX3_told_331 rfl okX3_pass q764 q766 qs13 (by first | first | assumption | exact TxP.kt (by assumption) | (simp only [kd_pf, kd_al, nx_pf, nx_al, true_and, and_true]; (repeat (first | rw [if_neg (by omega)] | rw [if_pos (by omega)] | rw [if_pos trivial])); first | done | assumption | rfl) | (exact MkL.k_parser (by assumption))) am_k3 rfl (C_X3_pass hR hP.2.1 ha (fun z1 => (x_k0 ?_)) (fun z1 => x_kx ⟨hK.k_fault, kF 2 a _ _ (by rw [hp, pP_2 z1, rb_r]) (((XT.rf L h x t).hh fun y q1 q2 => fltH_o q2).le (by omega)) ha0 ⟨fltH_6, fltH_7⟩⟩))
  rw [pP_ok z1, rb_l] at hp
  have hR1 : RdX L (am_st h (x + 9) 3 (a + 1)) x b D N := hR.st9
  have hP1 : PsX (am_st h (x + 9) 3 (a + 1)) x t (a + 1) u := hP.st
  have hi1 := hR.nx ha (by omega) (by omega) z1
  have hT1 : TxP L (am_st h (x + 9) 3 (a + 1)) t u := hT.h9 hK fun y q1 q2 => am_st_o q1
  have hg1 : XT L h L (am_st h (x + 9) 3 (a + 1)) x t 0 := (XT.rf L h x t).hh fun y q1 q2 => am_st_o q1
  refine x_aload_0 dX3_told_334 ?_
  refine x_callV0 dX3_told_335 rfl okX3_known q1074 q1076 qs22 (by first | first | assumption | exact TxP.kt (by assumption) | (simp only [kd_pf, kd_al, nx_pf, nx_al, true_and, and_true]; (repeat (first | rw [if_neg (by omega)] | rw [if_pos (by omega)] | rw [if_pos trivial])); first | done | assumption | rfl) | (exact MkL.k_parser (by assumption))) am_k3 rfl (C_X3_known hR1 hi1 hP1 hT1 hI.1 (fun k1 a1 u1 L2 h2 y1 y2 y3 y4 y5 y6 => (x_k1 ?_)) (fun n tk L2 h2 y1 y2 y3 y4 => x_kx ⟨(hR1.up y2).mk.k_fault, kF n tk _ _ (by rw [hp, y1, rb_r]) ((hg1.tr (y2.xt (by omega)) (Int.le_refl _)).le (by omega)) y3 y4⟩))
  rw [y1, rb_l] at hp
  have hn := pKnown_i y1
  have hR2 := hR1.up y4
  have hg2 : XT L h L2 h2 x t 1 := hg1.tr (y4.xt (by omega)) (by omega)
  have hI2 := hI.ts hn.1
  have hK2 := hR2.mk
  have hfd := fdM_rg (u := u) (id := sJ b D (a + 1)) hI.1.1
  have ht1 : tM (uT u1) = tM (uT u) := by rw [hn.1.eq]; rfl
  refine x_istore_2 dX3_told_338 rfl ?_
  refine x_aload_0 dX3_told_339 ?_
  refine x_iconst dX3_told_340 ?_
  refine x_bipush dX3_told_341 rfl ?_
  refine x_callV2 dX3_told_343 rfl okX3_number q768 q770 qs14 (by first | first | assumption | exact TxP.kt (by assumption) | (simp only [kd_pf, kd_al, nx_pf, nx_al, true_and, and_true]; (repeat (first | rw [if_neg (by omega)] | rw [if_pos (by omega)] | rw [if_pos trivial])); first | done | assumption | rfl) | (exact MkL.k_parser (by assumption))) am_k3 rfl (C_X3_number hR2 y3 y6 (by decide) (by decide) (fun v2 a2 u2 h3 w1 w2 w3 w4 w5 w6 => (x_k1 ?_)) (fun n tk h3 w1 w2 w3 w4 => x_kx ⟨hR2.mk.k_fault, kF n tk _ _ (by rw [hp, w1, rb_r]) ((hg2.hh w2).le (by omega)) w3 w4⟩))
  rw [w1, rb_l] at hp
  have hn2 := pNum_i w1
  have hT4 : TxP L2 h3 t u2 := (y5.h9 hR2.mk fun y q1 q2 => w5 y q1).ts hn2.1
  have hg4 := hg2.hh fun y q1 q2 => w5 y q1
  have ht2 : tM (uT u2) = tM (uT u) := by rw [hn2.1.eq]; exact ht1
  have hI4 := hI2.ts hn2.1
  have hI40 := hI4.1
  have hk20 := (hT4.ls hI4.1).1
  have hI0 := hI.1
  refine x_istore_3 dX3_told_346 rfl ?_
  refine x_iload_2 dX3_told_347 ?_
  refine x_if_lt (tgt := 400) dX3_told_348 rfl (by omega) (fun c348 => ?_) (fun c348 => ?_)
  · refine x_ret dX3_told_400 rfl ?_
    first
    | (rw [if_neg (by omega)] at hp
       exact kS a2 _ _ _ hp (by omega) w3 ((hg4.pf (b9 := manP L2 t k1) (by omega)).le (by omega)) (hT4.dye (k := k1) (by omega) (by omega)) w6)
    | (rw [if_pos (by omega)] at hp
       exact kS a2 _ _ _ hp (by omega) w3 (hg4.le (by omega)) hT4 w6)
  · refine x_aload_0 dX3_told_351 ?_
    refine x_getW dX3_told_352 fl298_3 rfl (by first | (exact MkL.k_parser (by assumption)) | (first | assumption | exact TxP.kt (by assumption) | (simp only [kd_pf, kd_al, nx_pf, nx_al, true_and, and_true]; (repeat (first | rw [if_neg (by omega)] | rw [if_pos (by omega)] | rw [if_pos trivial])); first | done | assumption | rfl))) (by exact w6.1) ?_
    refine x_getR dX3_told_355 fl353_4 rfl (by first | (exact TxL.k0 (by assumption)) | (first | assumption | exact TxP.kt (by assumption) | (simp only [kd_pf, kd_al, nx_pf, nx_al, true_and, and_true]; (repeat (first | rw [if_neg (by omega)] | rw [if_pos (by omega)] | rw [if_pos trivial])); first | done | assumption | rfl))) (by exact hT4.f0) ?_
    refine x_iload_2 dX3_told_358 ?_
    refine x_callV1 dX3_told_359 rfl okJ5_get q1175 q530 q531 (by first | first | assumption | exact TxP.kt (by assumption) | (simp only [kd_pf, kd_al, nx_pf, nx_al, true_and, and_true]; (repeat (first | rw [if_neg (by omega)] | rw [if_pos (by omega)] | rw [if_pos trivial])); first | done | assumption | rfl) | (exact TxL.kl (by assumption))) am_k20 rfl (C_J5_get (hT4.ls hI4.1) ⟨by omega, by omega⟩ (x_k1 ?_))
    refine x_cast dX3_told_362 q789 (by exact (hT4.man (k := k1) (by omega) (by omega)).1) am_k14 ?_
    refine x_iload_3 dX3_told_365 ?_
    have hmn := hT4.man (k := k1) (by omega) (by omega)
    have hmp : t + 6 < manP L2 t k1 := hmn.2.2.1
    have h200 : 200 ≤ fF L2 (fF L2 (t + 1) 1) k1 := by show 200 ≤ manP L2 t k1; omega
    refine x_putFI dX3_told_366 fl997_14 (by exact (hT4.man (k := k1) (by omega) (by omega)).1) (by omega) (by omega) ?_
    refine x_goto (tgt := 400) dX3_told_369 rfl ?_
    refine x_ret dX3_told_400 rfl ?_
    first
    | (rw [if_neg (by omega)] at hp
       exact kS a2 _ _ _ hp (by omega) w3 ((hg4.pf (b9 := manP L2 t k1) (by omega)).le (by omega)) (hT4.dye (k := k1) (by omega) (by omega)) w6)
    | (rw [if_pos (by omega)] at hp
       exact kS a2 _ _ _ hp (by omega) w3 (hg4.le (by omega)) hT4 w6)
end TOLD
