/-! THREADTOWN READS: a man, from the start -/
set_option maxRecDepth 100000
section TMAN2
variable {G : am_G} {L L' L0 : am_L} {h h' h2 h0 : am_H} {x t a c e k w D N s id i j : Int} {b : Int → Int} {d : Nat} {Q : am_O → am_L → am_H → Prop} {u u' : PS}
theorem man134 (hR : RdX L h x b D N) (ha : inN N a) (hP : PsX h x t a u) (hC : TxC L h t u c) (hW : NwM L h c e id 0 0) (hcn : c < nx L) (hM : 0 ≤ tM (uT u) ∧ tM (uT u) ≤ 6) (hI : PsI u) (hxt : x + 1205 ≤ t ∧ t < nx L)
    (kS : ∀ a' u' L' h', (rb (pNum (sK b D) (sV b D) 0 11 a u) fun r => rb (pNum (sK b D) (sV b D) 0 11 r.2.1 r.2.2) fun s => (.inl (s.2.1, uMan (uCor' s.2.2 r.1 s.1 a) id r.1 s.1) : (Int × PS) ⊕ (Int × Int))) = .inl (a', u') → a + 1 < a' → inN N a' → XT L h L' h' x t 1 → TxP L' h' t u' → PsX h' x t a' u' → Q (.inl []) L' h')
    (kF : ∀ n tk L' h', (rb (pNum (sK b D) (sV b D) 0 11 a u) fun r => rb (pNum (sK b D) (sV b D) 0 11 r.2.1 r.2.2) fun s => (.inl (s.2.1, uMan (uCor' s.2.2 r.1 s.1 a) id r.1 s.1) : (Int × PS) ⊕ (Int × Int))) = .inr (n, tk) → XT L h L' h' x t 0 → (0 ≤ tk ∧ tk ≤ N) → FX1 h' x b D n tk → Q (.inr (x + 1)) L' h') :
    am_X G mX3_told (d + 30) 134 [aR (x + 9), aI w, aU, aU] [aR c] L h Q := by
  have hK := hR.mk
  have ha0 := ha.1
  have ha4 := ha.2
  have hx := hR.2.1
  have hND : N ≤ 2000 := by have := hR.2.2.2.2.2.1; have := hR.2.2.1; omega
  have hkc := hW.1
  have hct : t + 6 < c := hC.2.1
  have hok : okTx L c := by unfold okTx; omega
  have h16 : kd L c ≠ 116 := by omega
  refine x_astore_2 dX3_told_134 rfl ?_
  refine x_aload_0 dX3_told_135 ?_
  refine x_getI_ dX3_told_136 fl299_3 (by first | (exact MkL.k_parser (by assumption)) | (first | assumption | exact TxP.kt (by assumption) | (simp only [kd_pf, kd_al, nx_pf, nx_al, true_and, and_true]; (repeat (first | rw [if_neg (by omega)] | rw [if_pos (by omega)] | rw [if_pos trivial])); first | done | assumption | rfl))) (fun r136 => ?_)
  rw [hP.2.1]
  refine x_istore_3 dX3_told_139 rfl ?_
  refine x_aload_2 dX3_told_140 ?_
  refine x_aload_0 dX3_told_141 ?_
  refine x_iconst dX3_told_142 ?_
  refine x_bipush dX3_told_143 rfl ?_
  refine x_callV2 dX3_told_145 rfl okX3_number q768 q770 qs14 (by first | first | assumption | exact TxP.kt (by assumption) | (simp only [kd_pf, kd_al, nx_pf, nx_al, true_and, and_true]; (repeat (first | rw [if_neg (by omega)] | rw [if_pos (by omega)] | rw [if_pos trivial])); first | done | assumption | rfl) | (exact MkL.k_parser (by assumption))) am_k3 rfl (C_X3_number hR ha hP (by decide) (by decide) (fun v2 a2 u2 h3 w1 w2 w3 w4 w5 w6 => (x_k1 ?_)) (fun n tk h3 w1 w2 w3 w4 => x_kx ⟨hK.k_fault, kF n tk _ _ (by rw [w1, rb_r]) ((XT.rf L h x t).hh w2) w3 w4⟩))
  have hm2 := pNum_i w1
  have hg5 := ((XT.rf L h x t).hh fun y q1 q2 => w5 y q1).pf (b9 := c) (j9 := 3) (v9 := v2) (by omega)
  have hR5 := hR.ut hg5 hxt.1
  have hK5 := hR5.mk
  have hkc5 : kd (am_pf L c 3 v2) c = 14 := hkc
  refine x_putFI dX3_told_148 fl989_14 (by exact hkc) (by omega) (by omega) ?_
  refine x_aload_2 dX3_told_151 ?_
  refine x_aload_0 dX3_told_152 ?_
  refine x_iconst dX3_told_153 ?_
  refine x_bipush dX3_told_154 rfl ?_
  refine x_callV2 dX3_told_156 rfl okX3_number q768 q770 qs14 (by first | first | assumption | exact TxP.kt (by assumption) | (simp only [kd_pf, kd_al, nx_pf, nx_al, true_and, and_true]; (repeat (first | rw [if_neg (by omega)] | rw [if_pos (by omega)] | rw [if_pos trivial])); first | done | assumption | rfl) | (exact MkL.k_parser (by assumption))) am_k3 rfl (C_X3_number hR5 w3 w6 (by decide) (by decide) (fun v3 a3 u3 h4 v1 v2' v3' v4 v5 v6 => (x_k1 ?_)) (fun n tk h4 v1 v2' v3' v4 => x_kx ⟨hK5.k_fault, kF n tk _ _ (by rw [w1, rb_l, v1, rb_r]) (hg5.hh v2') v3' v4⟩))
  have hm3 := pNum_i v1
  have hts := hm2.1.tr hm3.1
  refine x_putFI dX3_told_159 fl992_14 (by exact hkc) (by omega) (by omega) ?_
  have hg6 := (hg5.hh fun y q1 q2 => v5 y q1).pf (b9 := c) (j9 := 4) (v9 := v3) (by omega)
  have hR6 := hR.ut hg6 hxt.1
  have hhh : ∀ y, y ≠ x + 9 → y ≠ x + 1 → h4 y = h y := fun y q1 q2 => (v5 y q1).trans (w5 y q1)
  have hW6 : NwM (am_pf (am_pf L c 3 v2) c 4 v3) h4 c e id v2 v3 := (hW.p3.p4).h9 hR6.mk hhh
  have hC6 : TxC (am_pf (am_pf L c 3 v2) c 4 v3) h4 t u3 c := (((hC.pk hok (Int.le_refl _) h16).pk (L := am_pf _ _ _ _) hok (Int.le_refl _) h16).h9 hR6.mk hhh).ts hts
  have ht6 : tM (uT u3) = tM (uT u) := by rw [hts.eq]; rfl
  have ea1 : a2 = a + 1 := hm2.2.2.1
  have ea2 : a3 = a2 + 1 := hm3.2.2.1
  have hpe : (rb (pNum (sK b D) (sV b D) 0 11 a u) fun r => rb (pNum (sK b D) (sV b D) 0 11 r.2.1 r.2.2) fun s => (.inl (s.2.1, uMan (uCor' s.2.2 r.1 s.1 a) id r.1 s.1) : (Int × PS) ⊕ (Int × Int))) = .inl (a3, uMan (uCor' u3 v2 v3 a) id v2 v3) := by rw [w1, rb_l, v1, rb_l]
  exact man162 hR6 v6 hC6 hW6 hcn (by omega) (hI.ts hts) ⟨by omega, by omega, by omega⟩ hxt fun L' y1 y2 => kS a3 _ L' h4 hpe (by omega) v3' ((hg6.tr y1 (Int.le_refl _)).le (by omega)) y2 v6
theorem told_man (hR : RdX L h x b D N) (ha : inN N a) (hP : PsX h x t a u) (hT : TxP L h t u) (hxt : x + 1205 ≤ t ∧ t < nx L) (hI : PsI u) (hk : sK b D a = 21) (hQ : ToK L h x t a b D N u Q) : am_X G mX3_told (d + 30) 107 [aR (x + 9), aI w, aU, aU] [] L h Q := by
  obtain ⟨kS, kF⟩ := hQ
  have hK := hR.mk
  have ha0 := ha.1
  have ha4 := ha.2
  have hx := hR.2.1
  have hI0 := hI.1
  have hp : pTold (sK b D) (sV b D) (sJ b D) a u = rb (pBeg (tM (uT u)) 7 a) fun a1 => rb (pName (sK b D) (sJ b D) a1 u) fun q => rb (pNum (sK b D) (sV b D) 0 11 q.1 q.2) fun r => rb (pNum (sK b D) (sV b D) 0 11 r.2.1 r.2.2) fun s =>
      .inl (s.2.1, uMan (uCor' s.2.2 r.1 s.1 q.1) (sJ b D a1) r.1 s.1) := by
    unfold pTold
    simp only [hk]
    rfl
  have hb0 : tM (uT u) = 7 ∨ 400 ≤ a → pBeg (tM (uT u)) 7 a = .inr (2, a) := fun z => by
    unfold pBeg
    split
    · rfl
    · exact pP_2 (by omega)
  have hb1 : tM (uT u) ≠ 7 → a < 400 → pBeg (tM (uT u)) 7 a = .inl (a + 1) := fun z z1 => by
    unfold pBeg
    rw [if_neg z]
    exact pP_ok z1
  have hkt := hT.kt
  have hk20 := (hT.ls hI.1).1
  have h200 := hT.1
  refine x_aload_0 dX3_told_107 ?_
  refine x_aload_0 dX3_told_108 ?_
  refine x_getW dX3_told_109 fl298_3 rfl (by first | (exact MkL.k_parser (by assumption)) | (first | assumption | exact TxP.kt (by assumption) | (simp only [kd_pf, kd_al, nx_pf, nx_al, true_and, and_true]; (repeat (first | rw [if_neg (by omega)] | rw [if_pos (by omega)] | rw [if_pos trivial])); first | done | assumption | rfl))) (by exact hP.1) ?_
  refine x_getR dX3_told_112 fl353_4 rfl (by first | (exact TxL.k0 (by assumption)) | (first | assumption | exact TxP.kt (by assumption) | (simp only [kd_pf, kd_al, nx_pf, nx_al, true_and, and_true]; (repeat (first | rw [if_neg (by omega)] | rw [if_pos (by omega)] | rw [if_pos trivial])); first | done | assumption | rfl))) (by exact hT.f0) ?_
  refine x_callV0 dX3_told_115 rfl okJ5_size q784 q526 q527 (by first | first | assumption | exact TxP.kt (by assumption) | (simp only [kd_pf, kd_al, nx_pf, nx_al, true_and, and_true]; (repeat (first | rw [if_neg (by omega)] | rw [if_pos (by omega)] | rw [if_pos trivial])); first | done | assumption | rfl) | (exact TxL.kl (by assumption))) am_k20 rfl (C_J5_size (hT.ls hI.1) (x_k1 ?_))
  refine x_bipush dX3_told_118 rfl ?_
  refine x_callV2 dX3_told_120 rfl okX3_begins q785 q787 qs17 (by first | first | assumption | exact TxP.kt (by assumption) | (simp only [kd_pf, kd_al, nx_pf, nx_al, true_and, and_true]; (repeat (first | rw [if_neg (by omega)] | rw [if_pos (by omega)] | rw [if_pos trivial])); first | done | assumption | rfl) | (exact MkL.k_parser (by assumption))) am_k3 rfl (C_X3_begins hR hP.2.1 ha (by unfold rg32; omega) (by unfold rg32; omega) (fun z1 => x_kx ⟨hK.k_fault, kF 2 a _ _ (by rw [hp, hb0 (Or.inl z1), rb_r]) (((XT.rf L h x t).hh fun y q1 q2 => fltH_o q2).le (by omega)) ha0 ⟨fltH_6, fltH_7⟩⟩) (fun z0 z1 => (x_k0 ?_)) (fun z0 z1 => x_kx ⟨hK.k_fault, kF 2 a _ _ (by rw [hp, hb0 (Or.inr z1), rb_r]) (((XT.rf L h x t).hh fun y q1 q2 => fltH_o q2).le (by omega)) ha0 ⟨fltH_6, fltH_7⟩⟩))
  rw [hb1 z0 z1, rb_l] at hp
  have hR1 : RdX L (am_st h (x + 9) 3 (a + 1)) x b D N := hR.st9
  have hP1 : PsX (am_st h (x + 9) 3 (a + 1)) x t (a + 1) u := hP.st
  have hi1 := hR.nx ha (by omega) (by omega) z1
  have hT1 : TxP L (am_st h (x + 9) 3 (a + 1)) t u := hT.h9 hK fun y q1 q2 => am_st_o q1
  have hg1 : XT L h L (am_st h (x + 9) 3 (a + 1)) x t 0 := (XT.rf L h x t).hh fun y q1 q2 => am_st_o q1
  refine am_wf fun wf => ?_
  refine x_new dX3_told_123 am_k14 q789 q790 q140 rfl (fun z123 => ?_)
  show am_X G mX3_told (d + 30) 126 _ _ (am_al L 14 8) _ Q
  refine am_wf fun wf1 => ?_
  have hz : ∀ j, fF L (nx L) j = 0 := fun j => (z123 j).2
  have hl1 : LB L (am_al L 14 8) (nx L) := (LB.rf L _).al (Int.le_refl _)
  have hgA : XG L (am_st h (x + 9) 3 (a + 1)) (am_al L 14 8) (am_st h (x + 9) 3 (a + 1)) x 1 := XG.al (by decide)
  have hR2 := hR1.up hgA
  have hT2 : TxP (am_al L 14 8) (am_st h (x + 9) 3 (a + 1)) t u := hT1.up wf hl1 (fun _ _ => rfl)
  have hC2 : TxC (am_al L 14 8) (am_st h (x + 9) 3 (a + 1)) t u (nx L) := (TxC.of hT1 wf).up wf hl1 (fun _ _ => rfl)
  have hg2 : XT L h (am_al L 14 8) (am_st h (x + 9) 3 (a + 1)) x t 1 := hg1.tr (hgA.xt (by omega)) (by omega)
  have hn1 : nx (am_al L 14 8) = nx L + 1 := rfl
  have hK2' := hR2.mk
  have hkc1 : kd (am_al L 14 8) (nx L) = 14 := if_pos rfl
  refine x_dup dX3_told_126 rfl ?_
  refine x_aload_0 dX3_told_127 ?_
  refine x_callV0 dX3_told_128 rfl okX3_name q791 q793 qs18 (by first | first | assumption | exact TxP.kt (by assumption) | (simp only [kd_pf, kd_al, nx_pf, nx_al, true_and, and_true]; (repeat (first | rw [if_neg (by omega)] | rw [if_pos (by omega)] | rw [if_pos trivial])); first | done | assumption | rfl) | (exact MkL.k_parser (by assumption))) am_k3 rfl (C_X3_name hR2 hi1 hP1 hT2 hI0 (fun a1 u1 L2 h2 r y1 y2 y3 y4 y5 y6 y7 => (x_k1 ?_)) (fun n tk L2 h2 y1 y2 y3 y4 => x_kx ⟨(hR2.up y2).mk.k_fault, kF n tk _ _ (by rw [hp, y1, rb_r]) ((hg2.tr (y2.xt (by omega)) (Int.le_refl _)).le (by omega)) y3 y4⟩))
  rw [y1, rb_l] at hp
  have hn := pName_i y1
  have hR3 := hR2.up y4
  have hK3 := hR3.mk
  have hg3 : XT L h L2 h2 x t 2 := hg2.tr (y4.xt (by omega)) (by omega)
  have hn2 : nx L + 1 ≤ nx L2 := y4.2.1.1
  have hkc : kd L2 (nx L) = 14 := (y4.1 (nx L) (by omega)).1.trans hkc1
  have hzc : ∀ j, fF L2 (nx L) j = 0 := fun j => ((y4.1 (nx L) (by omega)).2.2 j).trans (hz j)
  have hC3 := hC2.ch wf1 y4.1 y6 (by rw [hn.1.eq]; rfl)
  refine am_wf fun wf2 => ?_
  refine x_callI1 dX3_told_131 rfl okX14_init rfl rfl q976 q977 (by omega) rfl (C_X14_init hkc (by omega) (by omega) (x_k0 ?_))
  have hg4 : XT L h (lMan L2 (nx L) r) h2 x t 3 := hg3.tr (lMan_xt (by omega) (by omega)) (by omega)
  have hW := NwM.of0 wf2 hkc (by omega) hzc y5
  have hC4 := hC3.man0 (s := r) wf2 hkc (by omega)
  have hnn : nx (lMan L2 (nx L) r) = nx L2 + 1 + 1 := rfl
  have ea1 : a1 = a + 1 + 1 := hn.2.1
  exact man134 (L := lMan L2 (nx L) r) (hR.ut hg4 hxt.1) y3 y7 hC4 hW (show nx L < nx (lMan L2 (nx L) r) by omega) (by rw [hn.1.eq]; show 0 ≤ tM (uT u) ∧ tM (uT u) ≤ 6; omega) (hI.ts hn.1) ⟨hxt.1, show t < nx (lMan L2 (nx L) r) by omega⟩ (fun a' u' L' h' e1 e2 e3 e4 e5 e6 => kS a' u' L' h' (hp.trans e1) (by omega) e3 (hg4.tr e4 (by omega)) e5 e6) (fun n tk L' h' e1 e4 e5 e6 => kF n tk L' h' (hp.trans e1) ((hg4.tr e4 (Int.le_refl _)).le (by omega)) e5 e6)
end TMAN2
