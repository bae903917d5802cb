/-! THREADTOWN READS: the parser reads -/
set_option maxRecDepth 100000
section XREAD3
variable {G : am_G} {L L' L0 : am_L} {h h' h2 h0 : am_H} {x t a c w D N : Int} {b : Int → Int} {d : Nat} {Q : am_O → am_L → am_H → Prop} {u u' : PS}
/-- what a read may change -/
def RdG (L : am_L) (h : am_H) (L' : am_L) (h' : am_H) (x : Int) : Prop := LB L L' (nx L) ∧ (nx L ≤ nx L' ∧ nx L' ≤ nx L + 4100) ∧ us L' ≤ us L + 50000 ∧ (∀ a, a < nx L → a ≠ x + 9 → a ≠ x + 1 → a ≠ x + 2 → a ≠ x + 5 → a ≠ x + 6 → a ≠ x + 7 → a ≠ x + 8 → h' a = h a) ∧ ∀ j, j ≠ 7 → h' (x + 2) j = h (x + 2) j
theorem TxN.tp (r : TxN L t) (h200 : 200 ≤ t) (h1 : kd L 1 = 116 ∧ ln L 1 = 0) : TxP L h t u0 := by
  obtain ⟨r1, f0, f1, f2, f3, f4, f5, f6, f7, f8, f9, f10, f11, k1, g0, g1, g2, k2, n2, k3, n3, k4, n4, k5, n5, k6, n6⟩ := r
  refine ⟨h200, 1, fun _ => 0, fun _ => 0, ⟨r1, ⟨f0, f1, f2, f3, f4, f5⟩, ⟨f6, f7, f8, f9, f10⟩, Or.inl ⟨rfl, f11⟩, ⟨k1, g1, g2, g0⟩, h1.1, Or.inl ⟨rfl, rfl, h1.2⟩, ⟨⟨k2, n2⟩, ⟨k3, n3⟩, ⟨k4, n4⟩, ⟨k5, n5⟩, ⟨k6, n6⟩⟩, fun p z0 z1 => ?_, fun i z0 z1 => ?_⟩, fun m z0 z1 => ?_, fun m m' z0 z1 z2 => ?_⟩
  · exact absurd z1 (by show ¬ p < 0; omega)
  · exact absurd z1 (by show ¬ i < 0; omega)
  · exact absurd z1 (by show ¬ m < 0; omega)
  · exact absurd z2 (by show ¬ m' < 0; omega)
theorem read33 (hR : RdX L h x b D N) (hP : PsX h x t 0 u0) (hT : TxP L h t u0) (hxt : x + 1205 ≤ t ∧ t < nx L)
    (kS : ∀ T L' h', pRead (sK b D) (sV b D) (sJ b D) = .inl T → TxL L' t T → XT L h L' h' x t 401 → Q (.inl [aR t]) L' h')
    (kF : ∀ n tk L' h', pRead (sK b D) (sV b D) (sJ b D) = .inr (n, tk) → XT L h L' h' x t 401 → (0 ≤ tk ∧ tk ≤ N) → FX1 h' x b D n tk → Q (.inr (x + 1)) L' h') : am_X G mX3_read (d + 31) 33 [aR (x + 9), aU] [] L h Q := by
  have hpr : pRead (sK b D) (sV b D) (sJ b D) = rb (pRun (sK b D) (sV b D) (sJ b D) 402 0 u0) pEnd := rfl
  generalize hRR : pRun (sK b D) (sV b D) (sJ b D) 402 0 u0 = R at hpr
  rw [hpr] at kS kF
  have hlp : ∀ (f : Nat) (a : Int) (u : PS) (L3 : am_L) (h3 : am_H), 402 ≤ f + a → inN N a → PsX h3 x t a u → TxP L3 h3 t u → PsI u → PsW N u → XT L h L3 h3 x t a → pRun (sK b D) (sV b D) (sJ b D) f a u = R → am_X G mX3_read (d + 31) 33 [aR (x + 9), aU] [] L3 h3 Q := by
    intro f
    induction f with
    | zero =>
      intro a u L3 h3 e1 e2
      exact absurd e2.2 (by omega)
    | succ f ih =>
      intro a u L3 h3 e1 ha hP3 hT3 hI hw hg he
      have hR3 := hR.ut hg hxt.1
      have hK3 := hR3.mk
      have ha0 := ha.1
      have ha4 := ha.2
      have hxt3 : x + 1205 ≤ t ∧ t < nx L3 := ⟨hxt.1, by have := hg.2.1; omega⟩
      have hs4 := srt4 (k := sK b D a)
      have hsr := srt_rg (sK b D a)
      unfold pRun at he
      have kFr : ∀ n tk L' h', (if sK b D a = 0 then .inl u else rb (pTold (sK b D) (sV b D) (sJ b D) a u) fun q => rb (pM (sK b D) 4 q.1) fun a1 => pRun (sK b D) (sV b D) (sJ b D) f a1 q.2 : PS ⊕ (Int × Int)) = .inr (n, tk) → XT L3 h3 L' h' x t (401 - a) → (0 ≤ tk ∧ tk ≤ N) → FX1 h' x b D n tk → Q (.inr (x + 1)) L' h' := fun n tk L' h' z1 z2 z3 z4 => kF n tk L' h' (by rw [← he, z1, rb_r]) (hg.tr z2 (by omega)) z3 z4
      refine x_aload_0 dX3_read_33 ?_
      refine x_callV0 dX3_read_34 rfl okX3_sort q744 q746 qs9 (by first | first | assumption | exact TxP.kt (by assumption) | (simp only [kd_pf, kd_al, nx_pf, nx_al, true_and, and_true]; (repeat (first | rw [if_neg (by omega)] | rw [if_pos (by omega)] | rw [if_pos trivial])); first | done | assumption | rfl) | (exact MkL.k_parser (by assumption))) am_k3 rfl (C_X3_sort hR3 hP3.2.1 ha (fun z1 => (x_k1 ?_)) (fun z1 => x_kx ⟨hK3.k_fault, kFr 1 a _ _ (by rw [if_neg (by omega), pTold_no (fun w _ _ => by omega), rb_r]) (((XT.rf L3 h3 x t).hh fun y q1 q2 => fltH_o q2).le (by omega)) ha0 ⟨fltH_6, fltH_7⟩⟩))
      refine x_iconst dX3_read_37 ?_
      refine x_icmp_eq (tgt := 54) dX3_read_38 rfl (by omega) (by omega) (fun c38 => ?_) (fun c38 => ?_)
      · have hk0 : sK b D a = 0 := by omega
        rw [if_pos hk0] at he
        exact read54 hR3 hP3 hT3 hI hw (fun T z1 z2 => kS T L3 h3 (by rw [← he, rb_l]; exact z1) z2 (hg.le (by omega))) (fun n tk z1 z2 => kF n tk L3 _ (by rw [← he, rb_l]; exact z1) ((hg.hh fun y q1 q2 => fltH_o q2).le (by omega)) z2 ⟨fltH_6, fltH_7⟩)
      · have hk0 : sK b D a ≠ 0 := by omega
        rw [if_neg hk0] at he kFr
        refine x_aload_0 dX3_read_41 ?_
        refine x_callV0 dX3_read_42 rfl okX3_told q760 q762 qs12 (by first | first | assumption | exact TxP.kt (by assumption) | (simp only [kd_pf, kd_al, nx_pf, nx_al, true_and, and_true]; (repeat (first | rw [if_neg (by omega)] | rw [if_pos (by omega)] | rw [if_pos trivial])); first | done | assumption | rfl) | (exact MkL.k_parser (by assumption))) am_k3 rfl (C_X3_told hR3 ha hP3 hT3 hxt3 hI ⟨fun a' u' L' h' y1 y2 y3 y4 y5 y6 => (x_k0 ?_), fun n tk L' h' y1 y2 y3 y4 => x_kx ⟨(hR3.ut y2 hxt.1).mk.k_fault, kFr n tk L' h' (by rw [y1, rb_r]) y2 y3 y4⟩⟩)
        rw [y1, rb_l] at he
        have hR4 := hR3.ut y4 hxt.1
        have hK4 := hR4.mk
        have hIW := pTold_I (N := N) (fun a z0 z1 z2 z3 z4 => by have := hR.nx (a := a) ⟨⟨z0, z1⟩, by omega⟩ z2 z3 z4; exact this.1.2) ha0 hI hw y1
        have ha1 := y3.1
        have ha14 := y3.2
        have hg4 := hg.tr y4 (Int.le_refl _)
        have kFq : ∀ n, pM (sK b D) 4 a' = .inr (n, a') → Q (.inr (x + 1)) L' (fltH h' x n (sP b D a')) := fun n z => kFr n a' _ _ (by rw [y1, rb_l]; show rb (pM (sK b D) 4 a') _ = _; rw [z, rb_r]) ((y4.hh fun y q1 q2 => fltH_o q2).le (by omega)) ha1 ⟨fltH_6, fltH_7⟩
        refine x_aload_0 dX3_read_45 ?_
        refine x_bipush dX3_read_46 rfl ?_
        refine x_callV1 dX3_read_48 rfl okX3_sign q1108 q1110 qs24 (by first | first | assumption | exact TxP.kt (by assumption) | (simp only [kd_pf, kd_al, nx_pf, nx_al, true_and, and_true]; (repeat (first | rw [if_neg (by omega)] | rw [if_pos (by omega)] | rw [if_pos trivial])); first | done | assumption | rfl) | (exact MkL.k_parser (by assumption))) am_k3 rfl (C_X3_sign (s := 59) hR4 y6.2.1 y3 (by decide) (by decide) (fun z1 z2 => (x_k0 ?_)) (fun z1 => x_kx ⟨hK4.k_fault, kFq 1 (pM_1 z1)⟩) (fun z1 z2 => x_kx ⟨hK4.k_fault, kFq 2 (pM_2 z1 z2)⟩))
        refine x_goto (tgt := 33) dX3_read_51 rfl ?_
        have hk4 : sK b D a' = 4 := z1
        have hi5 := hR.nx y3 (by omega) (by omega) z2
        have he2 : (rb (pM (sK b D) 4 a') fun a1 => pRun (sK b D) (sV b D) (sJ b D) f a1 u') = R := he
        rw [pM_ok hk4 z2, rb_l] at he2
        exact ih (a' + 1) u' L' _ (by omega) hi5 y6.st (y5.h9 hK4 fun y q1 q2 => am_st_o q1) hIW.1 hIW.2 ((hg4.hh fun y q1 q2 => am_st_o q1).le (by omega)) he2
  have h0N : inN N 0 := ⟨⟨by decide, by have := hR.2.2.2.2.2.1; omega⟩, by decide⟩
  exact hlp 402 0 u0 L h (by omega) h0N hP hT PsI_0 PsW_0 ((XT.rf L h x t).le (by omega)) hRR
theorem C_X3_read (hK : MkL L x) (hx : 200 ≤ x ∧ x + 1205 ≤ nx L) (hW : WdL L x) (hTp : TpL h x D b) (h1l : kd L 1 = 116 ∧ ln L 1 = 0)
    (kS : ∀ T L' h' t, pRead (sK b D) (sV b D) (sJ b D) = .inl T → TxL L' t T → RdG L h L' h' x → (nx L ≤ t ∧ t < nx L') → Q (.inl [aR t]) L' h')
    (kF : ∀ n tk L' h', pRead (sK b D) (sV b D) (sJ b D) = .inr (n, tk) → RdG L h L' h' x → (0 ≤ tk ∧ tk ≤ 2000) → FX1 h' x b D n tk → Q (.inr (x + 1)) L' h') : am_C G mX3_read (d + 31) [aR (x + 9)] L h Q := by
  refine x_start okX3_read rfl rfl rfl rfl ?_
  refine x_aload_0 dX3_read_0 ?_
  refine x_getR dX3_read_1 fl296_3 rfl (by first | (exact MkL.k_parser (by assumption)) | (first | assumption | exact TxP.kt (by assumption) | (simp only [kd_pf, kd_al, nx_pf, nx_al, true_and, and_true]; (repeat (first | rw [if_neg (by omega)] | rw [if_pos (by omega)] | rw [if_pos trivial])); first | done | assumption | rfl))) (by first | (exact MkL.v_t (by assumption)) | (assumption)) ?_
  refine x_callV0 dX3_read_4 rfl okX2_read q668 q669 q670 (by first | first | assumption | exact TxP.kt (by assumption) | (simp only [kd_pf, kd_al, nx_pf, nx_al, true_and, and_true]; (repeat (first | rw [if_neg (by omega)] | rw [if_pos (by omega)] | rw [if_pos trivial])); first | done | assumption | rfl) | (exact MkL.k_tokens (by assumption))) am_k2 rfl (C_X2_read hK hW hTp (fun h1 N y1 y2 y3 y4 y5 y6 => (x_k0 ?_)))
  refine x_aload_0 dX3_read_7 ?_
  refine x_new dX3_read_8 am_k4 q742 q319 q121 rfl (fun z8 => ?_)
  show am_X G mX3_read (d + 31) 11 _ _ (am_al L 4 12) _ Q
  refine x_dup dX3_read_11 rfl ?_
  refine x_callIN0 dX3_read_12 rfl okX4_init rfl rfl q743 q321 (by rw [kd_al, if_pos rfl]; decide) rfl (C_X4_init (c := nx L) (if_pos rfl) (by rw [nx_al]) (by omega) (fun j => (z8 j).2) (fun L1 w1 w2 w3 w4 => (x_k0 ?_)))
  have hlb : LB L L1 (nx L) := ((LB.rf L (nx L)).al (k := 4) (n := 12) (Int.le_refl _)).tr w4 (Int.le_refl _)
  have hK1 : MkL L1 x := hK.lb hlb hx.2
  have hus : us L1 ≤ us L + 174 := by rw [w3, us_al]; omega
  have h1l' : kd L1 1 = 116 ∧ ln L1 1 = 0 := ⟨(hlb 1 (by omega)).1.trans h1l.1, (hlb 1 (by omega)).2.1.trans h1l.2⟩
  refine x_putW dX3_read_15 fl298_3 rfl (by first | (exact MkL.k_parser (by assumption)) | (first | assumption | exact TxP.kt (by assumption) | (simp only [kd_pf, kd_al, nx_pf, nx_al, true_and, and_true]; (repeat (first | rw [if_neg (by omega)] | rw [if_pos (by omega)] | rw [if_pos trivial])); first | done | assumption | rfl))) trivial ?_
  refine x_aload_0 dX3_read_18 ?_
  refine x_iconst dX3_read_19 ?_
  refine x_putI_ dX3_read_20 fl299_3 (by first | (exact MkL.k_parser (by assumption)) | (first | assumption | exact TxP.kt (by assumption) | (simp only [kd_pf, kd_al, nx_pf, nx_al, true_and, and_true]; (repeat (first | rw [if_neg (by omega)] | rw [if_pos (by omega)] | rw [if_pos trivial])); first | done | assumption | rfl))) (by omega) ?_
  refine x_aload_0 dX3_read_23 ?_
  refine x_iconst dX3_read_24 ?_
  refine x_putI_ dX3_read_25 fl300_3 (by first | (exact MkL.k_parser (by assumption)) | (first | assumption | exact TxP.kt (by assumption) | (simp only [kd_pf, kd_al, nx_pf, nx_al, true_and, and_true]; (repeat (first | rw [if_neg (by omega)] | rw [if_pos (by omega)] | rw [if_pos trivial])); first | done | assumption | rfl))) (by omega) ?_
  refine x_aload_0 dX3_read_28 ?_
  refine x_iconst dX3_read_29 ?_
  refine x_putI_ dX3_read_30 fl301_3 (by first | (exact MkL.k_parser (by assumption)) | (first | assumption | exact TxP.kt (by assumption) | (simp only [kd_pf, kd_al, nx_pf, nx_al, true_and, and_true]; (repeat (first | rw [if_neg (by omega)] | rw [if_pos (by omega)] | rw [if_pos trivial])); first | done | assumption | rfl))) (by omega) ?_
  have hD := hTp.2.1
  have hR : RdX L1 (am_st (am_st (am_st (am_st h1 (x + 9) 2 (nx L)) (x + 9) 3 0) (x + 9) 4 0) (x + 9) 5 0) x b D N := by
    refine ⟨hK1, ⟨hx.1, by omega⟩, hD, fun i z0 z1 => ?_, fun i z0 z1 => ?_, y1, y2, y3⟩
    · simp (disch := omega) only [am_st_o]
      rw [y5 _ (by omega) (by omega) (by omega) (by omega) (by omega)]
      exact hTp.2.2.1 i z0 z1
    · simp (disch := omega) only [am_st_o]
      exact y4 i z0 z1
  have hPx : PsX (am_st (am_st (am_st (am_st h1 (x + 9) 2 (nx L)) (x + 9) 3 0) (x + 9) 4 0) (x + 9) 5 0) x (nx L) 0 u0 := by
    refine ⟨?_, ?_, ?_, ?_, Or.inl rfl⟩
    · simp (disch := omega) only [am_st_i, am_st_s]
    · simp (disch := omega) only [am_st_i, am_st_s]
    · simp (disch := omega) only [am_st_i, am_st_s]
    · exact am_st_s
  have hrg : ∀ L' h', XT L1 (am_st (am_st (am_st (am_st h1 (x + 9) 2 (nx L)) (x + 9) 3 0) (x + 9) 4 0) (x + 9) 5 0) L' h' x (nx L) 401 → RdG L h L' h' x := fun L' h' g => by
    obtain ⟨g1, g2, g3, g4⟩ := g
    refine ⟨hlb.tr g1 (Int.le_refl _), ⟨by omega, by omega⟩, by omega, fun a z0 z1 z2 z3 z4 z5 z6 z7 => ?_, fun j z => ?_⟩
    · rw [g4 a (by omega) z1 z2]
      simp (disch := omega) only [am_st_o]
      exact y5 a z3 z4 z5 z6 z7
    · rw [g4 (x + 2) (by omega) (by omega) (by omega)]
      simp (disch := omega) only [am_st_o]
      exact y6 j z
  exact read33 hR hPx (w1.tp (by omega) h1l') ⟨hx.2, by omega⟩ (fun T L' h' e1 e2 e3 => kS T L' h' (nx L) e1 e2 (hrg L' h' e3) ⟨Int.le_refl _, by have := e3.2.1; omega⟩) (fun n tk L' h' e1 e3 e4 e5 => kF n tk L' h' e1 (hrg L' h' e3) ⟨e4.1, by omega⟩ e5)
end XREAD3
