/-! THREADTOWN READS: parts and sums -/
set_option maxRecDepth 100000
section XSUM2
variable {G : am_G} {L L' L2 : am_L} {h h' h2 : am_H} {x D N a c : Int} {b : Int → Int} {d e : Nat} {o : Int} {f : Nat} {Q : am_O → am_L → am_H → Prop}
theorem RdX.op (r : RdX L h x b D N) (ha : inN N a) (hk : sK b D a = 8 ∨ sK b D a = 9 ∨ sK b D a = 10 ∨ sK b D a = 15) : h (x + 8) a = opK (sK b D a) := by
  have h8 := (r.tk ha.1).2.2.2 (by omega)
  rw [if_pos (by omega)] at h8
  have e1 := sK_sg (b := b) (D := D) (i := a) (by omega) (by omega)
  rw [h8]
  have key : ∀ v, kdS v = sK b D a → b (sP b D a) = v := fun v z => kdS_inj (by rw [← e1, z]) (by rw [← e1]; omega)
  rcases hk with q | q | q | q
  · rw [q]; exact key 43 (by rw [q]; decide)
  · rw [q]; exact key 45 (by rw [q]; decide)
  · rw [q]; exact key 42 (by rw [q]; decide)
  · rw [q]; exact key 47 (by rw [q]; decide)
theorem opK_rg (k : Int) : 42 ≤ opK k ∧ opK k ≤ 47 := by unfold opK; (repeat' split) <;> omega
set_option maxHeartbeats 2000000 in
theorem XWP_s (hU : XC G x b D N mX3_unit 0 (e + 6) o f) (hW : XW G x b D N mX3_part 2 (e + 7) o f) : XW G x b D N mX3_part 2 (e + 7) o (f + 1) := by
  intro n L h Q a r c ta hc hR hat hop ha hrk hsum kS kF
  refine am_wf fun wf => ?_
  have hK := hR.mk
  have ha0 := ha.1
  have ha4 := ha.2
  have hx := hR.2.1
  have hND : N ≤ 2000 := by have := hR.2.2.2.2.2.1; have := hR.2.2.1; omega
  have hk1 : kdS 42 = 10 := by decide
  have hk2 : kdS 47 = 15 := by decide
  by_cases qk : sK b D a = 10 ∨ sK b D a = 15
  · have hopv := hR.op ha (by omega)
    have hopr := opK_rg (sK b D a)
    by_cases q4 : 400 ≤ a
    · have hpE : pE (sK b D) (sV b D) (f + 1) 2 o a ta = .inr (2, a) := by
        rw [pE, if_pos qk, if_pos q4] <;> simp
      have h23 : am_X G mX3_part (e + 7) 23 [aR (x + 9), aR r, aU] [] L h Q := by
        refine x_aload_0 dX3_part_23 ?_
        refine x_getR dX3_part_24 fl296_3 rfl (by first | (exact MkL.k_parser (by assumption)) | (first | assumption | (simp only [kd_pf, kd_al, nx_pf, nx_al, true_and, and_true]; (repeat (first | rw [if_neg (by omega)] | rw [if_pos (by omega)] | rw [if_pos trivial])); first | done | assumption | rfl))) (by first | (exact MkL.v_t (by assumption)) | (assumption)) ?_
        refine x_getR dX3_part_27 fl270_2 rfl (by first | (exact MkL.k_tokens (by assumption)) | (first | assumption | (simp only [kd_pf, kd_al, nx_pf, nx_al, true_and, and_true]; (repeat (first | rw [if_neg (by omega)] | rw [if_pos (by omega)] | rw [if_pos trivial])); first | done | assumption | rfl))) (by first | (exact MkL.v_what (by assumption)) | (assumption)) ?_
        refine x_aload_0 dX3_part_30 ?_
        refine x_getI_ dX3_part_31 fl299_3 (by first | (exact MkL.k_parser (by assumption)) | (first | assumption | (simp only [kd_pf, kd_al, nx_pf, nx_al, true_and, and_true]; (repeat (first | rw [if_neg (by omega)] | rw [if_pos (by omega)] | rw [if_pos trivial])); first | done | assumption | rfl))) (fun r31 => ?_)
        rw [hat] at r31 ⊢
        refine x_sald_ dX3_part_34 (by first | (exact MkL.k_what (by assumption)) | (first | assumption | (simp only [kd_pf, kd_al, nx_pf, nx_al, true_and, and_true]; (repeat (first | rw [if_neg (by omega)] | rw [if_pos (by omega)] | rw [if_pos trivial])); first | done | assumption | rfl))) (by first | (exact MkL.x_what (by assumption) (by omega) (by omega)) | (omega)) (fun r34 => ?_)
        rw [hopv] at r34 ⊢
        refine x_istore_2 dX3_part_35 rfl ?_
        refine x_aload_0 dX3_part_36 ?_
        refine x_callV0 dX3_part_37 rfl okX3_pass q764 q766 qs13 (by first | first | assumption | (simp only [kd_pf, kd_al, nx_pf, nx_al, true_and, and_true]; (repeat (first | rw [if_neg (by omega)] | rw [if_pos (by omega)] | rw [if_pos trivial])); first | done | assumption | rfl) | (exact MkL.k_parser (by assumption))) am_k3 rfl (C_X3_pass hR hat ha (fun z => by exfalso; omega) (fun z => x_kx ⟨hK.k_fault, kF _ _ _ _ hpE ((XG.rf L h x).flt.le (by omega)) ha.1 fltH_6 fltH_7⟩))
        skip
      refine x_aload_0 dX3_part_5 ?_
      refine x_bipush dX3_part_6 rfl ?_
      refine x_callV1 dX3_part_8 rfl okX3_isSign q1112 q1114 qs25 (by first | first | assumption | (simp only [kd_pf, kd_al, nx_pf, nx_al, true_and, and_true]; (repeat (first | rw [if_neg (by omega)] | rw [if_pos (by omega)] | rw [if_pos trivial])); first | done | assumption | rfl) | (exact MkL.k_parser (by assumption))) am_k3 rfl (C_X3_isSign hR hat ha (by decide) (by decide) (x_k1 ?_))
      rw [hk1]
      refine x_if_ne (tgt := 23) dX3_part_11 rfl (by split <;> omega) (fun c11 => ?_) (fun c11 => ?_)
      · exact h23
      · refine x_aload_0 dX3_part_14 ?_
        refine x_bipush dX3_part_15 rfl ?_
        refine x_callV1 dX3_part_17 rfl okX3_isSign q1112 q1114 qs25 (by first | first | assumption | (simp only [kd_pf, kd_al, nx_pf, nx_al, true_and, and_true]; (repeat (first | rw [if_neg (by omega)] | rw [if_pos (by omega)] | rw [if_pos trivial])); first | done | assumption | rfl) | (exact MkL.k_parser (by assumption))) am_k3 rfl (C_X3_isSign hR hat ha (by decide) (by decide) (x_k1 ?_))
        rw [hk2]
        refine x_if_eq (tgt := 57) dX3_part_20 rfl (by split <;> omega) (fun c20 => ?_) (fun c20 => ?_)
        · exfalso
          split at c11 <;> (try split at c20) <;> omega
        · exact h23
    · have hpE : pE (sK b D) (sV b D) (f + 1) 2 o a ta = match pE (sK b D) (sV b D) f 0 o (a + 1) ta with
          | .inr e => .inr e
          | .inl q => pE (sK b D) (sV b D) f 2 o q.2 (jnT (opK (sK b D a)) ta q.1) := by
        rw [pE, if_pos qk, if_neg q4] <;> first | (cases pE (sK b D) (sV b D) f 0 o (a + 1) ta <;> rfl) | simp
      have han := hR.nx ha (by omega) (by omega) (by omega)
      have hg1 : XG L h (am_al L 19 3) (am_st h (x + 9) 3 (a + 1)) x 1 := (XG.al (by decide)).st9
      have hR1 := hR.up hg1
      have hK1 := hR1.mk
      have h23 : am_X G mX3_part (e + 7) 23 [aR (x + 9), aR r, aU] [] L h Q := by
        refine x_aload_0 dX3_part_23 ?_
        refine x_getR dX3_part_24 fl296_3 rfl (by first | (exact MkL.k_parser (by assumption)) | (first | assumption | (simp only [kd_pf, kd_al, nx_pf, nx_al, true_and, and_true]; (repeat (first | rw [if_neg (by omega)] | rw [if_pos (by omega)] | rw [if_pos trivial])); first | done | assumption | rfl))) (by first | (exact MkL.v_t (by assumption)) | (assumption)) ?_
        refine x_getR dX3_part_27 fl270_2 rfl (by first | (exact MkL.k_tokens (by assumption)) | (first | assumption | (simp only [kd_pf, kd_al, nx_pf, nx_al, true_and, and_true]; (repeat (first | rw [if_neg (by omega)] | rw [if_pos (by omega)] | rw [if_pos trivial])); first | done | assumption | rfl))) (by first | (exact MkL.v_what (by assumption)) | (assumption)) ?_
        refine x_aload_0 dX3_part_30 ?_
        refine x_getI_ dX3_part_31 fl299_3 (by first | (exact MkL.k_parser (by assumption)) | (first | assumption | (simp only [kd_pf, kd_al, nx_pf, nx_al, true_and, and_true]; (repeat (first | rw [if_neg (by omega)] | rw [if_pos (by omega)] | rw [if_pos trivial])); first | done | assumption | rfl))) (fun r31 => ?_)
        rw [hat] at r31 ⊢
        refine x_sald_ dX3_part_34 (by first | (exact MkL.k_what (by assumption)) | (first | assumption | (simp only [kd_pf, kd_al, nx_pf, nx_al, true_and, and_true]; (repeat (first | rw [if_neg (by omega)] | rw [if_pos (by omega)] | rw [if_pos trivial])); first | done | assumption | rfl))) (by first | (exact MkL.x_what (by assumption) (by omega) (by omega)) | (omega)) (fun r34 => ?_)
        rw [hopv] at r34 ⊢
        refine x_istore_2 dX3_part_35 rfl ?_
        refine x_aload_0 dX3_part_36 ?_
        refine x_callV0 dX3_part_37 rfl okX3_pass q764 q766 qs13 (by first | first | assumption | (simp only [kd_pf, kd_al, nx_pf, nx_al, true_and, and_true]; (repeat (first | rw [if_neg (by omega)] | rw [if_pos (by omega)] | rw [if_pos trivial])); first | done | assumption | rfl) | (exact MkL.k_parser (by assumption))) am_k3 rfl (C_X3_pass hR hat ha (fun z => (x_k0 ?_)) (fun z => by exfalso; omega))
        refine x_new dX3_part_40 am_k19 q1155 q1156 q150 rfl (fun z40 => ?_)
        refine x_dup dX3_part_43 rfl ?_
        refine x_iload_2 dX3_part_44 ?_
        refine x_aload_1 dX3_part_45 ?_
        refine x_aload_0 dX3_part_46 ?_
        refine x_callV0 dX3_part_47 rfl okX3_unit q1128 q1130 qs29 (by first | first | assumption | (simp only [kd_pf, kd_al, nx_pf, nx_al, true_and, and_true]; (repeat (first | rw [if_neg (by omega)] | rw [if_pos (by omega)] | rw [if_pos trivial])); first | done | assumption | rfl) | (exact MkL.k_parser (by assumption))) am_k3 rfl (hU (am_al L 19 3) (am_st h (x + 9) 3 (a + 1)) _ (a + 1) ta hR1 am_st_s (by rw [am_st_i (by decide)]; exact hop) han (by unfold rkE at hrk ⊢; simp at hrk ⊢; omega) (fun t2 a2 L2 h2 r2 z1 z2 z3 z4 z5 z6 z7 => (x_k1 ?_)) (fun n2 tk L2 h2 z1 z2 z3 z4 z5 => x_kx ⟨(hR1.up z2).mk.k_fault, kF n2 tk L2 h2 (by rw [hpE, z1]) ((hg1.tr z2 (Int.le_refl _)).le (by omega)) z3 z4 z5⟩))
        have hR2 := hR1.up z4
        have hK2 := hR2.mk
        have hn1 : nx (am_al L 19 3) = nx L + 1 := nx_al _ _ _
        have hk19 : kd L2 (nx L) = 19 := (z4.1 (nx L) (by omega)).1.trans (by rw [kd_al, if_pos rfl])
        have hk99 : kd L2 (nx L) ≠ 99 := by rw [hk19]; decide
        rw [z1] at hpE
        refine x_callI3 dX3_part_50 rfl okX19_init rfl rfl q1157 q1158 hk99 rfl (C_X19_init hk19 (by omega) ⟨by omega, by omega⟩ (x_k0 ?_))
        refine x_astore_1 dX3_part_53 rfl ?_
        refine x_goto (tgt := 5) dX3_part_54 rfl ?_
        have g3 : XG L h (am_pf (am_pf (am_pf L2 (nx L) 0 (opK (sK b D a))) (nx L) 1 r) (nx L) 2 r2) h2 x (a2 - a) := by
          have g := hg1.tr z4 (Int.le_refl _)
          exact ⟨((g.1.pf (Int.le_refl _)).pf (Int.le_refl _)).pf (Int.le_refl _), ⟨by rw [nx_pf, nx_pf, nx_pf]; exact g.2.1.1, by rw [nx_pf, nx_pf, nx_pf]; have := g.2.1.2; omega⟩, by rw [us_pf, us_pf, us_pf]; have := g.2.2.1; omega, g.2.2.2⟩
        have hR3 := hR.up g3
        refine x_wk (by simp [wkL, aU]) <| hW (n + (a2 - a).toNat) _ h2 Q a2 (nx L) c (jnT (opK (sK b D a)) ta t2) (by have := g3.2.1.1; omega) hR3 z6 (by rw [z7 4 (by decide), am_st_i (by decide)]; exact hop) z3 (by unfold rkE at hrk ⊢; simp at hrk ⊢; omega) ?_ (fun ta' a3 L3 h3 r3 y1 y2 y3 y4 y5 y6 y7 => kS ta' a3 L3 h3 r3 (by rw [hpE]; exact y1) (by omega) y3 ((g3.tr y4 (Int.le_refl _)).le (by omega)) (SumF.le (by omega) y5) y6 (fun j zj => by rw [y7 j zj, z7 j zj, am_st_i zj])) (fun n2 tk L3 h3 y1 y2 y3 y4 y5 => kF n2 tk L3 h3 (by rw [hpE]; exact y1) ((g3.tr y2 (Int.le_refl _)).le (by omega)) y3 y4 y5)
        rw [show n + (a2 - a).toNat = (n + (a2 - (a + 1)).toNat) + 1 by omega]
        refine ⟨hc, Or.inr (Or.inr ⟨hk19, ta, t2, ?_, ?_, ?_⟩)⟩
        · rw [show fF (am_pf (am_pf (am_pf L2 (nx L) 0 (opK (sK b D a))) (nx L) 1 r) (nx L) 2 r2) (nx L) 1 = r by rw [fF_pf, if_neg (by omega), fF_pf, if_pos ⟨rfl, rfl⟩]]
          exact SumF.lb (hwL.of wf) g3.1 _ (SumF.le (by omega) hsum)
        · rw [show fF (am_pf (am_pf (am_pf L2 (nx L) 0 (opK (sK b D a))) (nx L) 1 r) (nx L) 2 r2) (nx L) 2 = r2 by rw [fF_pf, if_pos ⟨rfl, rfl⟩]]
          exact SumF.pf (by omega) _ (SumF.pf (by omega) _ (SumF.pf (by omega) _ (SumF.le (by omega) z5))) |> SumF.dn (by omega) _
        · rw [show fF (am_pf (am_pf (am_pf L2 (nx L) 0 (opK (sK b D a))) (nx L) 1 r) (nx L) 2 r2) (nx L) 0 = opK (sK b D a) by rw [fF_pf, if_neg (by omega), fF_pf, if_neg (by omega), fF_pf, if_pos ⟨rfl, rfl⟩]]
      refine x_aload_0 dX3_part_5 ?_
      refine x_bipush dX3_part_6 rfl ?_
      refine x_callV1 dX3_part_8 rfl okX3_isSign q1112 q1114 qs25 (by first | first | assumption | (simp only [kd_pf, kd_al, nx_pf, nx_al, true_and, and_true]; (repeat (first | rw [if_neg (by omega)] | rw [if_pos (by omega)] | rw [if_pos trivial])); first | done | assumption | rfl) | (exact MkL.k_parser (by assumption))) am_k3 rfl (C_X3_isSign hR hat ha (by decide) (by decide) (x_k1 ?_))
      rw [hk1]
      refine x_if_ne (tgt := 23) dX3_part_11 rfl (by split <;> omega) (fun c11 => ?_) (fun c11 => ?_)
      · exact h23
      · refine x_aload_0 dX3_part_14 ?_
        refine x_bipush dX3_part_15 rfl ?_
        refine x_callV1 dX3_part_17 rfl okX3_isSign q1112 q1114 qs25 (by first | first | assumption | (simp only [kd_pf, kd_al, nx_pf, nx_al, true_and, and_true]; (repeat (first | rw [if_neg (by omega)] | rw [if_pos (by omega)] | rw [if_pos trivial])); first | done | assumption | rfl) | (exact MkL.k_parser (by assumption))) am_k3 rfl (C_X3_isSign hR hat ha (by decide) (by decide) (x_k1 ?_))
        rw [hk2]
        refine x_if_eq (tgt := 57) dX3_part_20 rfl (by split <;> omega) (fun c20 => ?_) (fun c20 => ?_)
        · exfalso
          split at c11 <;> (try split at c20) <;> omega
        · exact h23
  · have hpE : pE (sK b D) (sV b D) (f + 1) 2 o a ta = .inl (ta, a) := by
      rw [pE, if_neg qk] <;> simp
    refine x_aload_0 dX3_part_5 ?_
    refine x_bipush dX3_part_6 rfl ?_
    refine x_callV1 dX3_part_8 rfl okX3_isSign q1112 q1114 qs25 (by first | first | assumption | (simp only [kd_pf, kd_al, nx_pf, nx_al, true_and, and_true]; (repeat (first | rw [if_neg (by omega)] | rw [if_pos (by omega)] | rw [if_pos trivial])); first | done | assumption | rfl) | (exact MkL.k_parser (by assumption))) am_k3 rfl (C_X3_isSign hR hat ha (by decide) (by decide) (x_k1 ?_))
    rw [hk1, if_neg (by omega)]
    refine x_if_ne (tgt := 23) dX3_part_11 rfl (by omega) (fun c11 => ?_) (fun c11 => ?_)
    · first
      | exact absurd rfl c11
      | exact absurd rfl c20
    · refine x_aload_0 dX3_part_14 ?_
      refine x_bipush dX3_part_15 rfl ?_
      refine x_callV1 dX3_part_17 rfl okX3_isSign q1112 q1114 qs25 (by first | first | assumption | (simp only [kd_pf, kd_al, nx_pf, nx_al, true_and, and_true]; (repeat (first | rw [if_neg (by omega)] | rw [if_pos (by omega)] | rw [if_pos trivial])); first | done | assumption | rfl) | (exact MkL.k_parser (by assumption))) am_k3 rfl (C_X3_isSign hR hat ha (by decide) (by decide) (x_k1 ?_))
      rw [hk2, if_neg (by omega)]
      refine x_if_eq (tgt := 57) dX3_part_20 rfl (by omega) (fun c20 => ?_) (fun c20 => ?_)
      · refine x_aload_1 dX3_part_57 ?_
        refine x_aret dX3_part_58 rfl ?_
        exact kS ta a L h r hpE (Int.le_refl _) ha ((XG.rf L h x).le (by omega)) (SumF.le (by omega) hsum) hat (fun _ _ => rfl)
      · first
        | exact absurd rfl c11
        | exact absurd rfl c20
theorem XP_s (hU : XC G x b D N mX3_unit 0 (e + 6) o f) (hW : XW G x b D N mX3_part 2 (e + 7) o f) : XC G x b D N mX3_part 1 (e + 7) o (f + 1) := by
  intro L h Q a t0 hR hat hop ha hrk kS kF
  have hK := hR.mk
  have ha0 := ha.1
  have hpE : pE (sK b D) (sV b D) (f + 1) 1 o a t0 = match pE (sK b D) (sV b D) f 0 o a t0 with
      | .inr e => .inr e
      | .inl q => pE (sK b D) (sV b D) f 2 o q.2 q.1 := by
    rw [pE]
    cases pE (sK b D) (sV b D) f 0 o a t0 <;> rfl
  refine x_start okX3_part rfl rfl rfl rfl ?_
  refine x_aload_0 dX3_part_0 ?_
  refine x_callV0 dX3_part_1 rfl okX3_unit q1128 q1130 qs29 (by first | first | assumption | (simp only [kd_pf, kd_al, nx_pf, nx_al, true_and, and_true]; (repeat (first | rw [if_neg (by omega)] | rw [if_pos (by omega)] | rw [if_pos trivial])); first | done | assumption | rfl) | (exact MkL.k_parser (by assumption))) am_k3 rfl (hU L h _ a t0 hR hat hop ha (by unfold rkE at hrk ⊢; simp at hrk ⊢; omega) (fun t1 a1 L1 h1 r1 z1 z2 z3 z4 z5 z6 z7 => (x_k1 ?_)) (fun n2 tk L2 h2 z1 z2 z3 z4 z5 => x_kx ⟨(hR.up z2).mk.k_fault, kF n2 tk L2 h2 (by rw [hpE, z1]) z2 z3 z4 z5⟩))
  refine x_astore_1 dX3_part_4 rfl ?_
  rw [z1] at hpE
  exact hW (a1 - a).toNat L1 h1 Q a1 r1 (nx L) t1 z4.2.1.1 (hR.up z4) z6 (by rw [z7 4 (by decide)]; exact hop) z3 (by unfold rkE at hrk ⊢; simp at hrk ⊢; omega) z5 (fun ta' a3 L3 h3 r3 y1 y2 y3 y4 y5 y6 y7 => kS ta' a3 L3 h3 r3 (by rw [hpE]; exact y1) (by omega) y3 ((z4.tr y4 (Int.le_refl _)).le (by omega)) (SumF.le (by omega) y5) y6 (fun j zj => by rw [y7 j zj, z7 j zj])) (fun n2 tk L3 h3 y1 y2 y3 y4 y5 => kF n2 tk L3 h3 (by rw [hpE]; exact y1) ((z4.tr y2 (Int.le_refl _)).le (by omega)) y3 y4 y5)
set_option maxHeartbeats 2000000 in
theorem XWS_s (hU : XC G x b D N mX3_part 1 (e + 7) o f) (hW : XW G x b D N mX3_sum 4 (e + 8) o f) : XW G x b D N mX3_sum 4 (e + 8) o (f + 1) := by
  intro n L h Q a r c ta hc hR hat hop ha hrk hsum kS kF
  refine am_wf fun wf => ?_
  have hK := hR.mk
  have ha0 := ha.1
  have ha4 := ha.2
  have hx := hR.2.1
  have hND : N ≤ 2000 := by have := hR.2.2.2.2.2.1; have := hR.2.2.1; omega
  have hk1 : kdS 43 = 8 := by decide
  have hk2 : kdS 45 = 9 := by decide
  by_cases qk : sK b D a = 8 ∨ sK b D a = 9
  · have hopv := hR.op ha (by omega)
    have hopr := opK_rg (sK b D a)
    by_cases q4 : 400 ≤ a
    · have hpE : pE (sK b D) (sV b D) (f + 1) 4 o a ta = .inr (2, a) := by
        rw [pE, if_pos qk, if_pos q4] <;> simp
      have h23 : am_X G mX3_sum (e + 8) 23 [aR (x + 9), aR r, aU] [] L h Q := by
        refine x_aload_0 dX3_sum_23 ?_
        refine x_getR dX3_sum_24 fl296_3 rfl (by first | (exact MkL.k_parser (by assumption)) | (first | assumption | (simp only [kd_pf, kd_al, nx_pf, nx_al, true_and, and_true]; (repeat (first | rw [if_neg (by omega)] | rw [if_pos (by omega)] | rw [if_pos trivial])); first | done | assumption | rfl))) (by first | (exact MkL.v_t (by assumption)) | (assumption)) ?_
        refine x_getR dX3_sum_27 fl270_2 rfl (by first | (exact MkL.k_tokens (by assumption)) | (first | assumption | (simp only [kd_pf, kd_al, nx_pf, nx_al, true_and, and_true]; (repeat (first | rw [if_neg (by omega)] | rw [if_pos (by omega)] | rw [if_pos trivial])); first | done | assumption | rfl))) (by first | (exact MkL.v_what (by assumption)) | (assumption)) ?_
        refine x_aload_0 dX3_sum_30 ?_
        refine x_getI_ dX3_sum_31 fl299_3 (by first | (exact MkL.k_parser (by assumption)) | (first | assumption | (simp only [kd_pf, kd_al, nx_pf, nx_al, true_and, and_true]; (repeat (first | rw [if_neg (by omega)] | rw [if_pos (by omega)] | rw [if_pos trivial])); first | done | assumption | rfl))) (fun r31 => ?_)
        rw [hat] at r31 ⊢
        refine x_sald_ dX3_sum_34 (by first | (exact MkL.k_what (by assumption)) | (first | assumption | (simp only [kd_pf, kd_al, nx_pf, nx_al, true_and, and_true]; (repeat (first | rw [if_neg (by omega)] | rw [if_pos (by omega)] | rw [if_pos trivial])); first | done | assumption | rfl))) (by first | (exact MkL.x_what (by assumption) (by omega) (by omega)) | (omega)) (fun r34 => ?_)
        rw [hopv] at r34 ⊢
        refine x_istore_2 dX3_sum_35 rfl ?_
        refine x_aload_0 dX3_sum_36 ?_
        refine x_callV0 dX3_sum_37 rfl okX3_pass q764 q766 qs13 (by first | first | assumption | (simp only [kd_pf, kd_al, nx_pf, nx_al, true_and, and_true]; (repeat (first | rw [if_neg (by omega)] | rw [if_pos (by omega)] | rw [if_pos trivial])); first | done | assumption | rfl) | (exact MkL.k_parser (by assumption))) am_k3 rfl (C_X3_pass hR hat ha (fun z => by exfalso; omega) (fun z => x_kx ⟨hK.k_fault, kF _ _ _ _ hpE ((XG.rf L h x).flt.le (by omega)) ha.1 fltH_6 fltH_7⟩))
        skip
      refine x_aload_0 dX3_sum_5 ?_
      refine x_bipush dX3_sum_6 rfl ?_
      refine x_callV1 dX3_sum_8 rfl okX3_isSign q1112 q1114 qs25 (by first | first | assumption | (simp only [kd_pf, kd_al, nx_pf, nx_al, true_and, and_true]; (repeat (first | rw [if_neg (by omega)] | rw [if_pos (by omega)] | rw [if_pos trivial])); first | done | assumption | rfl) | (exact MkL.k_parser (by assumption))) am_k3 rfl (C_X3_isSign hR hat ha (by decide) (by decide) (x_k1 ?_))
      rw [hk1]
      refine x_if_ne (tgt := 23) dX3_sum_11 rfl (by split <;> omega) (fun c11 => ?_) (fun c11 => ?_)
      · exact h23
      · refine x_aload_0 dX3_sum_14 ?_
        refine x_bipush dX3_sum_15 rfl ?_
        refine x_callV1 dX3_sum_17 rfl okX3_isSign q1112 q1114 qs25 (by first | first | assumption | (simp only [kd_pf, kd_al, nx_pf, nx_al, true_and, and_true]; (repeat (first | rw [if_neg (by omega)] | rw [if_pos (by omega)] | rw [if_pos trivial])); first | done | assumption | rfl) | (exact MkL.k_parser (by assumption))) am_k3 rfl (C_X3_isSign hR hat ha (by decide) (by decide) (x_k1 ?_))
        rw [hk2]
        refine x_if_eq (tgt := 57) dX3_sum_20 rfl (by split <;> omega) (fun c20 => ?_) (fun c20 => ?_)
        · exfalso
          split at c11 <;> (try split at c20) <;> omega
        · exact h23
    · have hpE : pE (sK b D) (sV b D) (f + 1) 4 o a ta = match pE (sK b D) (sV b D) f 1 o (a + 1) ta with
          | .inr e => .inr e
          | .inl q => pE (sK b D) (sV b D) f 4 o q.2 (jnT (opK (sK b D a)) ta q.1) := by
        rw [pE, if_pos qk, if_neg q4] <;> first | (cases pE (sK b D) (sV b D) f 1 o (a + 1) ta <;> rfl) | simp
      have han := hR.nx ha (by omega) (by omega) (by omega)
      have hg1 : XG L h (am_al L 19 3) (am_st h (x + 9) 3 (a + 1)) x 1 := (XG.al (by decide)).st9
      have hR1 := hR.up hg1
      have hK1 := hR1.mk
      have h23 : am_X G mX3_sum (e + 8) 23 [aR (x + 9), aR r, aU] [] L h Q := by
        refine x_aload_0 dX3_sum_23 ?_
        refine x_getR dX3_sum_24 fl296_3 rfl (by first | (exact MkL.k_parser (by assumption)) | (first | assumption | (simp only [kd_pf, kd_al, nx_pf, nx_al, true_and, and_true]; (repeat (first | rw [if_neg (by omega)] | rw [if_pos (by omega)] | rw [if_pos trivial])); first | done | assumption | rfl))) (by first | (exact MkL.v_t (by assumption)) | (assumption)) ?_
        refine x_getR dX3_sum_27 fl270_2 rfl (by first | (exact MkL.k_tokens (by assumption)) | (first | assumption | (simp only [kd_pf, kd_al, nx_pf, nx_al, true_and, and_true]; (repeat (first | rw [if_neg (by omega)] | rw [if_pos (by omega)] | rw [if_pos trivial])); first | done | assumption | rfl))) (by first | (exact MkL.v_what (by assumption)) | (assumption)) ?_
        refine x_aload_0 dX3_sum_30 ?_
        refine x_getI_ dX3_sum_31 fl299_3 (by first | (exact MkL.k_parser (by assumption)) | (first | assumption | (simp only [kd_pf, kd_al, nx_pf, nx_al, true_and, and_true]; (repeat (first | rw [if_neg (by omega)] | rw [if_pos (by omega)] | rw [if_pos trivial])); first | done | assumption | rfl))) (fun r31 => ?_)
        rw [hat] at r31 ⊢
        refine x_sald_ dX3_sum_34 (by first | (exact MkL.k_what (by assumption)) | (first | assumption | (simp only [kd_pf, kd_al, nx_pf, nx_al, true_and, and_true]; (repeat (first | rw [if_neg (by omega)] | rw [if_pos (by omega)] | rw [if_pos trivial])); first | done | assumption | rfl))) (by first | (exact MkL.x_what (by assumption) (by omega) (by omega)) | (omega)) (fun r34 => ?_)
        rw [hopv] at r34 ⊢
        refine x_istore_2 dX3_sum_35 rfl ?_
        refine x_aload_0 dX3_sum_36 ?_
        refine x_callV0 dX3_sum_37 rfl okX3_pass q764 q766 qs13 (by first | first | assumption | (simp only [kd_pf, kd_al, nx_pf, nx_al, true_and, and_true]; (repeat (first | rw [if_neg (by omega)] | rw [if_pos (by omega)] | rw [if_pos trivial])); first | done | assumption | rfl) | (exact MkL.k_parser (by assumption))) am_k3 rfl (C_X3_pass hR hat ha (fun z => (x_k0 ?_)) (fun z => by exfalso; omega))
        refine x_new dX3_sum_40 am_k19 q1155 q1156 q150 rfl (fun z40 => ?_)
        refine x_dup dX3_sum_43 rfl ?_
        refine x_iload_2 dX3_sum_44 ?_
        refine x_aload_1 dX3_sum_45 ?_
        refine x_aload_0 dX3_sum_46 ?_
        refine x_callV0 dX3_sum_47 rfl okX3_part q1124 q1126 qs28 (by first | first | assumption | (simp only [kd_pf, kd_al, nx_pf, nx_al, true_and, and_true]; (repeat (first | rw [if_neg (by omega)] | rw [if_pos (by omega)] | rw [if_pos trivial])); first | done | assumption | rfl) | (exact MkL.k_parser (by assumption))) am_k3 rfl (hU (am_al L 19 3) (am_st h (x + 9) 3 (a + 1)) _ (a + 1) ta hR1 am_st_s (by rw [am_st_i (by decide)]; exact hop) han (by unfold rkE at hrk ⊢; simp at hrk ⊢; omega) (fun t2 a2 L2 h2 r2 z1 z2 z3 z4 z5 z6 z7 => (x_k1 ?_)) (fun n2 tk L2 h2 z1 z2 z3 z4 z5 => x_kx ⟨(hR1.up z2).mk.k_fault, kF n2 tk L2 h2 (by rw [hpE, z1]) ((hg1.tr z2 (Int.le_refl _)).le (by omega)) z3 z4 z5⟩))
        have hR2 := hR1.up z4
        have hK2 := hR2.mk
        have hn1 : nx (am_al L 19 3) = nx L + 1 := nx_al _ _ _
        have hk19 : kd L2 (nx L) = 19 := (z4.1 (nx L) (by omega)).1.trans (by rw [kd_al, if_pos rfl])
        have hk99 : kd L2 (nx L) ≠ 99 := by rw [hk19]; decide
        rw [z1] at hpE
        refine x_callI3 dX3_sum_50 rfl okX19_init rfl rfl q1157 q1158 hk99 rfl (C_X19_init hk19 (by omega) ⟨by omega, by omega⟩ (x_k0 ?_))
        refine x_astore_1 dX3_sum_53 rfl ?_
        refine x_goto (tgt := 5) dX3_sum_54 rfl ?_
        have g3 : XG L h (am_pf (am_pf (am_pf L2 (nx L) 0 (opK (sK b D a))) (nx L) 1 r) (nx L) 2 r2) h2 x (a2 - a) := by
          have g := hg1.tr z4 (Int.le_refl _)
          exact ⟨((g.1.pf (Int.le_refl _)).pf (Int.le_refl _)).pf (Int.le_refl _), ⟨by rw [nx_pf, nx_pf, nx_pf]; exact g.2.1.1, by rw [nx_pf, nx_pf, nx_pf]; have := g.2.1.2; omega⟩, by rw [us_pf, us_pf, us_pf]; have := g.2.2.1; omega, g.2.2.2⟩
        have hR3 := hR.up g3
        refine x_wk (by simp [wkL, aU]) <| hW (n + (a2 - a).toNat) _ h2 Q a2 (nx L) c (jnT (opK (sK b D a)) ta t2) (by have := g3.2.1.1; omega) hR3 z6 (by rw [z7 4 (by decide), am_st_i (by decide)]; exact hop) z3 (by unfold rkE at hrk ⊢; simp at hrk ⊢; omega) ?_ (fun ta' a3 L3 h3 r3 y1 y2 y3 y4 y5 y6 y7 => kS ta' a3 L3 h3 r3 (by rw [hpE]; exact y1) (by omega) y3 ((g3.tr y4 (Int.le_refl _)).le (by omega)) (SumF.le (by omega) y5) y6 (fun j zj => by rw [y7 j zj, z7 j zj, am_st_i zj])) (fun n2 tk L3 h3 y1 y2 y3 y4 y5 => kF n2 tk L3 h3 (by rw [hpE]; exact y1) ((g3.tr y2 (Int.le_refl _)).le (by omega)) y3 y4 y5)
        rw [show n + (a2 - a).toNat = (n + (a2 - (a + 1)).toNat) + 1 by omega]
        refine ⟨hc, Or.inr (Or.inr ⟨hk19, ta, t2, ?_, ?_, ?_⟩)⟩
        · rw [show fF (am_pf (am_pf (am_pf L2 (nx L) 0 (opK (sK b D a))) (nx L) 1 r) (nx L) 2 r2) (nx L) 1 = r by rw [fF_pf, if_neg (by omega), fF_pf, if_pos ⟨rfl, rfl⟩]]
          exact SumF.lb (hwL.of wf) g3.1 _ (SumF.le (by omega) hsum)
        · rw [show fF (am_pf (am_pf (am_pf L2 (nx L) 0 (opK (sK b D a))) (nx L) 1 r) (nx L) 2 r2) (nx L) 2 = r2 by rw [fF_pf, if_pos ⟨rfl, rfl⟩]]
          exact SumF.pf (by omega) _ (SumF.pf (by omega) _ (SumF.pf (by omega) _ (SumF.le (by omega) z5))) |> SumF.dn (by omega) _
        · rw [show fF (am_pf (am_pf (am_pf L2 (nx L) 0 (opK (sK b D a))) (nx L) 1 r) (nx L) 2 r2) (nx L) 0 = opK (sK b D a) by rw [fF_pf, if_neg (by omega), fF_pf, if_neg (by omega), fF_pf, if_pos ⟨rfl, rfl⟩]]
      refine x_aload_0 dX3_sum_5 ?_
      refine x_bipush dX3_sum_6 rfl ?_
      refine x_callV1 dX3_sum_8 rfl okX3_isSign q1112 q1114 qs25 (by first | first | assumption | (simp only [kd_pf, kd_al, nx_pf, nx_al, true_and, and_true]; (repeat (first | rw [if_neg (by omega)] | rw [if_pos (by omega)] | rw [if_pos trivial])); first | done | assumption | rfl) | (exact MkL.k_parser (by assumption))) am_k3 rfl (C_X3_isSign hR hat ha (by decide) (by decide) (x_k1 ?_))
      rw [hk1]
      refine x_if_ne (tgt := 23) dX3_sum_11 rfl (by split <;> omega) (fun c11 => ?_) (fun c11 => ?_)
      · exact h23
      · refine x_aload_0 dX3_sum_14 ?_
        refine x_bipush dX3_sum_15 rfl ?_
        refine x_callV1 dX3_sum_17 rfl okX3_isSign q1112 q1114 qs25 (by first | first | assumption | (simp only [kd_pf, kd_al, nx_pf, nx_al, true_and, and_true]; (repeat (first | rw [if_neg (by omega)] | rw [if_pos (by omega)] | rw [if_pos trivial])); first | done | assumption | rfl) | (exact MkL.k_parser (by assumption))) am_k3 rfl (C_X3_isSign hR hat ha (by decide) (by decide) (x_k1 ?_))
        rw [hk2]
        refine x_if_eq (tgt := 57) dX3_sum_20 rfl (by split <;> omega) (fun c20 => ?_) (fun c20 => ?_)
        · exfalso
          split at c11 <;> (try split at c20) <;> omega
        · exact h23
  · have hpE : pE (sK b D) (sV b D) (f + 1) 4 o a ta = .inl (ta, a) := by
      rw [pE, if_neg qk] <;> simp
    refine x_aload_0 dX3_sum_5 ?_
    refine x_bipush dX3_sum_6 rfl ?_
    refine x_callV1 dX3_sum_8 rfl okX3_isSign q1112 q1114 qs25 (by first | first | assumption | (simp only [kd_pf, kd_al, nx_pf, nx_al, true_and, and_true]; (repeat (first | rw [if_neg (by omega)] | rw [if_pos (by omega)] | rw [if_pos trivial])); first | done | assumption | rfl) | (exact MkL.k_parser (by assumption))) am_k3 rfl (C_X3_isSign hR hat ha (by decide) (by decide) (x_k1 ?_))
    rw [hk1, if_neg (by omega)]
    refine x_if_ne (tgt := 23) dX3_sum_11 rfl (by omega) (fun c11 => ?_) (fun c11 => ?_)
    · first
      | exact absurd rfl c11
      | exact absurd rfl c20
    · refine x_aload_0 dX3_sum_14 ?_
      refine x_bipush dX3_sum_15 rfl ?_
      refine x_callV1 dX3_sum_17 rfl okX3_isSign q1112 q1114 qs25 (by first | first | assumption | (simp only [kd_pf, kd_al, nx_pf, nx_al, true_and, and_true]; (repeat (first | rw [if_neg (by omega)] | rw [if_pos (by omega)] | rw [if_pos trivial])); first | done | assumption | rfl) | (exact MkL.k_parser (by assumption))) am_k3 rfl (C_X3_isSign hR hat ha (by decide) (by decide) (x_k1 ?_))
      rw [hk2, if_neg (by omega)]
      refine x_if_eq (tgt := 57) dX3_sum_20 rfl (by omega) (fun c20 => ?_) (fun c20 => ?_)
      · refine x_aload_1 dX3_sum_57 ?_
        refine x_aret dX3_sum_58 rfl ?_
        exact kS ta a L h r hpE (Int.le_refl _) ha ((XG.rf L h x).le (by omega)) (SumF.le (by omega) hsum) hat (fun _ _ => rfl)
      · first
        | exact absurd rfl c11
        | exact absurd rfl c20
theorem XS_s (hU : XC G x b D N mX3_part 1 (e + 7) o f) (hW : XW G x b D N mX3_sum 4 (e + 8) o f) : XC G x b D N mX3_sum 3 (e + 8) o (f + 1) := by
  intro L h Q a t0 hR hat hop ha hrk kS kF
  have hK := hR.mk
  have ha0 := ha.1
  have hpE : pE (sK b D) (sV b D) (f + 1) 3 o a t0 = match pE (sK b D) (sV b D) f 1 o a t0 with
      | .inr e => .inr e
      | .inl q => pE (sK b D) (sV b D) f 4 o q.2 q.1 := by
    rw [pE]
    cases pE (sK b D) (sV b D) f 1 o a t0 <;> rfl
  refine x_start okX3_sum rfl rfl rfl rfl ?_
  refine x_aload_0 dX3_sum_0 ?_
  refine x_callV0 dX3_sum_1 rfl okX3_part q1124 q1126 qs28 (by first | first | assumption | (simp only [kd_pf, kd_al, nx_pf, nx_al, true_and, and_true]; (repeat (first | rw [if_neg (by omega)] | rw [if_pos (by omega)] | rw [if_pos trivial])); first | done | assumption | rfl) | (exact MkL.k_parser (by assumption))) am_k3 rfl (hU L h _ a t0 hR hat hop ha (by unfold rkE at hrk ⊢; simp at hrk ⊢; omega) (fun t1 a1 L1 h1 r1 z1 z2 z3 z4 z5 z6 z7 => (x_k1 ?_)) (fun n2 tk L2 h2 z1 z2 z3 z4 z5 => x_kx ⟨(hR.up z2).mk.k_fault, kF n2 tk L2 h2 (by rw [hpE, z1]) z2 z3 z4 z5⟩))
  refine x_astore_1 dX3_sum_4 rfl ?_
  rw [z1] at hpE
  exact hW (a1 - a).toNat L1 h1 Q a1 r1 (nx L) t1 z4.2.1.1 (hR.up z4) z6 (by rw [z7 4 (by decide)]; exact hop) z3 (by unfold rkE at hrk ⊢; simp at hrk ⊢; omega) z5 (fun ta' a3 L3 h3 r3 y1 y2 y3 y4 y5 y6 y7 => kS ta' a3 L3 h3 r3 (by rw [hpE]; exact y1) (by omega) y3 ((z4.tr y4 (Int.le_refl _)).le (by omega)) (SumF.le (by omega) y5) y6 (fun j zj => by rw [y7 j zj, z7 j zj])) (fun n2 tk L3 h3 y1 y2 y3 y4 y5 => kF n2 tk L3 h3 (by rw [hpE]; exact y1) ((z4.tr y2 (Int.le_refl _)).le (by omega)) y3 y4 y5)
theorem XE_all : ∀ (f : Nat) (d : Nat) (o : Int), 0 ≤ o → o ≤ 6 → XC G x b D N mX3_unit 0 (d + 3 * (6 - o).toNat + 6) o f ∧ XC G x b D N mX3_part 1 (d + 3 * (6 - o).toNat + 7) o f ∧ XW G x b D N mX3_part 2 (d + 3 * (6 - o).toNat + 7) o f ∧ XC G x b D N mX3_sum 3 (d + 3 * (6 - o).toNat + 8) o f ∧ XW G x b D N mX3_sum 4 (d + 3 * (6 - o).toNat + 8) o f
  | 0 => by
    intro d o h0 h6
    have key : ∀ m a, a ≤ 400 → ¬ rkE m a < ((0 : Nat) : Int) := fun m a h z => by
      unfold rkE at z
      (repeat' split at z) <;> omega
    exact ⟨fun L h Q a t0 hR hat hop ha hrk => absurd hrk (key _ _ ha.2), fun L h Q a t0 hR hat hop ha hrk => absurd hrk (key _ _ ha.2), fun n L h Q a r c ta hc hR hat hop ha hrk => absurd hrk (key _ _ ha.2), fun L h Q a t0 hR hat hop ha hrk => absurd hrk (key _ _ ha.2), fun n L h Q a r c ta hc hR hat hop ha hrk => absurd hrk (key _ _ ha.2)⟩
  | f + 1 => by
    intro d o h0 h6
    obtain ⟨i1, i2, i3, i4, i5⟩ := XE_all f d o h0 h6
    refine ⟨XU_s ⟨h0, h6⟩ (fun q => ?_), XP_s i1 i3, XWP_s i1 i3, XS_s i2 i5, XWS_s i2 i5⟩
    have := (XE_all f d (o + 1) (by omega) (by omega)).2.2.2.1
    rw [show d + 3 * (6 - (o + 1)).toNat + 8 = d + 3 * (6 - o).toNat + 5 by omega] at this
    exact this
end XSUM2
