/-! THREADTOWN'S CONSTRUCTOR -/
set_option maxRecDepth 100000
section XINIT6
variable {G : am_G} {L : am_L} {h : am_H} {x : Int} {d : Nat} {Q : am_O → am_L → am_H → Prop}
set_option maxHeartbeats 1000000 in
theorem X0i_1 (hk : kd L x = 0) (hnx : nx L = x + 1) (h200 : 200 ≤ x) (hs : ∀ w : Int, 11 ≤ w → w < 28 → kd L w = 21) (k : ∀ L3 h1, nx L3 = x + 9 → us L3 = us L + 10037 → kd L3 x = 0 → (kd L3 (x + 1) = 1 ∧ fF L3 x 0 = x + 1 ∧ TkN L3 (x + 2) ∧ fF L3 x 1 = x + 2) → LX L L3 (x + 1) 0 x → (∀ a j, a ≠ x + 1 → h1 a j = h a j) → am_X G mX0_init (d + 440) 26 [aR x, aU] [] L3 h1 Q) : am_C G mX0_init (d + 440) [aR x] L h Q := by
  refine x_start okX0_init rfl rfl rfl rfl ?_
  refine x_aload_0 dX0_init_0 ?_
  refine x_objInit dX0_init_1 q157 q158 q159 (by first | omega | (simp only [kd_pf, kd_al, true_and, and_true]; (repeat (first | rw [if_neg (by omega)] | rw [if_pos (by omega)] | rw [if_pos trivial])); omega)) rfl ?_
  refine x_aload_0 dX0_init_4 ?_
  refine x_new dX0_init_5 am_k1 q160 q161 q118 rfl (fun z5 => ?_)
  refine x_dup dX0_init_8 rfl ?_
  refine x_callI0 dX0_init_9 rfl okX1_init rfl rfl q199 q200 (by first | omega | (simp only [kd_pf, kd_al, true_and, and_true]; (repeat (first | rw [if_neg (by omega)] | rw [if_pos (by omega)] | rw [if_pos trivial])); omega)) rfl (C_X1_init (by rw [kd_al, if_pos rfl]) (fun h1 q1 => (x_k0 ?_)))
  refine x_putCR dX0_init_12 fl571_0 rfl trivial rfl rfl (by first | (exact MkL.k0 (by assumption)) | (first | assumption | (simp only [kd_pf, kd_al, true_and, and_true]; (repeat (first | rw [if_neg (by omega)] | rw [if_pos (by omega)] | rw [if_pos trivial])); first | done | assumption | rfl))) (by omega) ?_
  refine y_arr (x + 1) (x + 2) (us L) (us L + 8) hnx rfl hk (by omega) (by omega) (by omega) (fun L1 n1 u1 k1 f1 r1 => ?_)
  rw [hnx] at q1
  refine x_aload_0 dX0_init_15 ?_
  refine x_new dX0_init_16 am_k2 q234 q235 q119 rfl (fun z16 => ?_)
  refine x_dup dX0_init_19 rfl ?_
  refine x_callIN0 dX0_init_20 rfl okX2_init rfl rfl q236 q237 (by first | omega | (simp only [kd_pf, kd_al, true_and, and_true]; (repeat (first | rw [if_neg (by omega)] | rw [if_pos (by omega)] | rw [if_pos trivial])); omega)) rfl (C_X2_init (by rw [kd_al, if_pos rfl]) rfl (by omega) (fun w z0 z1 => by rw [kd_al, if_neg (by omega), (r1.1 w (by omega) (by omega)).1]; exact hs w z0 z1) (fun L2 t2 n2 u2 b2 => (x_k0 ?_)))
  have kx2 : kd L2 x = 0 := by rw [(b2 x (by omega)).1, kd_al, if_neg (by omega)]; exact k1
  refine x_putCR dX0_init_23 fl572_0 rfl trivial rfl rfl (by first | (exact MkL.k0 (by assumption)) | (first | assumption | (simp only [kd_pf, kd_al, true_and, and_true]; (repeat (first | rw [if_neg (by omega)] | rw [if_pos (by omega)] | rw [if_pos trivial])); first | done | assumption | rfl))) (by omega) ?_
  refine y_obj (P := fun L' => TkN L' (x + 2)) (x + 2) (x + 9) (us L + 8) (us L + 10037) n1 u1 k1 (by omega) (by omega) (by rw [u2, us_al]; omega) (by rw [n1] at b2; exact b2) (by omega) (fun L' r => by rw [n1] at t2; exact t2.lx r (by omega) (by omega)) (fun L3 n3 u3 k3 f3 r3 => ?_)
  exact k L3 h1 n3 u3 k3 ⟨(r3.1 (x + 1) (by omega) (by omega)).1.trans f1.1, (r3.2.2.2 0 (by omega)).trans f1.2.2, f3.1, f3.2⟩ (r1.tr (r3.up (by omega) (by omega)) (Int.le_refl _) (Int.le_refl _)) q1
set_option maxHeartbeats 1000000 in
theorem X0i_2 {L3 : am_L} {U : Int} (h200 : 200 ≤ x) (n3 : nx L3 = x + 9) (u3 : us L3 = U) (k3 : kd L3 x = 0) (e0 : fF L3 x 0 = x + 1) (e1 : fF L3 x 1 = x + 2) (k : ∀ L5, nx L5 = x + 17 → us L5 = U + 181 → kd L5 x = 0 → ((kd L5 (x + 9) = 3 ∧ fF L5 (x + 9) 0 = x + 2 ∧ fF L5 (x + 9) 1 = x + 1) ∧ fF L5 x 2 = x + 9 ∧ TxN L5 (x + 10)) → LX L3 L5 (x + 9) 2 x → am_X G mX0_init (d + 440) 61 [aR x, aU] [] L5 (am_st (am_st h x 3 (x + 10)) x 4 (-1)) Q) : am_X G mX0_init (d + 440) 26 [aR x, aU] [] L3 h Q := by
  refine am_wf fun wf => ?_
  refine x_aload_0 dX0_init_26 ?_
  refine x_new dX0_init_27 am_k3 q290 q291 q120 rfl (fun z27 => ?_)
  refine x_dup dX0_init_30 rfl ?_
  refine x_aload_0 dX0_init_31 ?_
  refine x_getR dX0_init_32 fl572_0 rfl (by first | (exact MkL.k0 (by assumption)) | (first | assumption | (simp only [kd_pf, kd_al, true_and, and_true]; (repeat (first | rw [if_neg (by omega)] | rw [if_pos (by omega)] | rw [if_pos trivial])); first | done | assumption | rfl))) (by exact e1) ?_
  refine x_aload_0 dX0_init_35 ?_
  refine x_getR dX0_init_36 fl571_0 rfl (by first | (exact MkL.k0 (by assumption)) | (first | assumption | (simp only [kd_pf, kd_al, true_and, and_true]; (repeat (first | rw [if_neg (by omega)] | rw [if_pos (by omega)] | rw [if_pos trivial])); first | done | assumption | rfl))) (by exact e0) ?_
  refine x_callI2 dX0_init_39 rfl okX3_init rfl rfl q292 q293 (by first | omega | (simp only [kd_pf, kd_al, true_and, and_true]; (repeat (first | rw [if_neg (by omega)] | rw [if_pos (by omega)] | rw [if_pos trivial])); omega)) rfl (C_X3_init (by rw [kd_al, if_pos rfl]) (by omega) (x_k0 ?_))
  refine x_putCR dX0_init_42 fl573_0 rfl trivial rfl rfl (by first | (exact MkL.k0 (by assumption)) | (first | assumption | (simp only [kd_pf, kd_al, true_and, and_true]; (repeat (first | rw [if_neg (by omega)] | rw [if_pos (by omega)] | rw [if_pos trivial])); first | done | assumption | rfl))) (by omega) ?_
  refine y_obj (P := fun L' => kd L' (x + 9) = 3 ∧ fF L' (x + 9) 0 = x + 2 ∧ fF L' (x + 9) 1 = x + 1) (x + 9) (x + 10) U (U + 7) n3 u3 k3 (by omega) (by rw [nx_pf, nx_pf, nx_al]; omega) (by rw [us_pf, us_pf, us_al]; omega) (((LB.rf _ _).pf (by omega)).pf (by omega)) (by omega) (fun L' r => ⟨by rw [(r.1 (x + 9) (by omega) (by omega)).1, kd_pf, kd_pf, kd_al, if_pos (by omega)], by rw [(r.1 (x + 9) (by omega) (by omega)).2.2, fF_pf, if_neg (by omega), fF_pf, if_pos ⟨by omega, rfl⟩], by rw [(r.1 (x + 9) (by omega) (by omega)).2.2, fF_pf, if_pos ⟨by omega, rfl⟩]⟩) (fun L4 n4 u4 k4 f4 r4 => ?_)
  refine x_aload_0 dX0_init_45 ?_
  refine x_new dX0_init_46 am_k4 q318 q319 q121 rfl (fun z46 => ?_)
  rw [n4]
  refine x_dup dX0_init_49 rfl ?_
  refine x_callIN0 dX0_init_50 rfl okX4_init rfl rfl q320 q321 (by first | omega | (simp only [kd_pf, kd_al, true_and, and_true]; (repeat (first | rw [if_neg (by omega)] | rw [if_pos (by omega)] | rw [if_pos trivial])); omega)) rfl (C_X4_init (c := x + 10) (by rw [kd_al, if_pos (by omega)]) (by rw [nx_al]; omega) (by omega) (fun j => by rw [← n4]; exact (z46 j).2) (fun L5 t5 n5 u5 b5 => (x_k0 ?_)))
  have k5 : kd L5 x = 0 := by rw [(b5 x (by omega)).1, kd_al, if_neg (by omega)]; exact k4
  refine x_putW dX0_init_53 fl574_0 rfl (by first | (exact MkL.k0 (by assumption)) | (first | assumption | (simp only [kd_pf, kd_al, true_and, and_true]; (repeat (first | rw [if_neg (by omega)] | rw [if_pos (by omega)] | rw [if_pos trivial])); first | done | assumption | rfl))) trivial ?_
  refine x_aload_0 dX0_init_56 ?_
  refine x_iconst dX0_init_57 ?_
  refine x_putI_ dX0_init_58 fl575_0 (by first | (exact MkL.k0 (by assumption)) | (first | assumption | (simp only [kd_pf, kd_al, true_and, and_true]; (repeat (first | rw [if_neg (by omega)] | rw [if_pos (by omega)] | rw [if_pos trivial])); first | done | assumption | rfl))) (by omega) ?_
  have r5 : LX L4 L5 (x + 10) 7 x := ((LX.rf L4 (x + 10) 7 x).al (by omega) (by omega)).lb b5 (by omega) (by omega)
  exact k L5 (by omega) (by rw [u5, us_al]; omega) k5 ⟨⟨(r5.1 (x + 9) (by omega) (by omega)).1.trans f4.1.1, ((r5.1 (x + 9) (by omega) (by omega)).2.2 0).trans f4.1.2.1, ((r5.1 (x + 9) (by omega) (by omega)).2.2 1).trans f4.1.2.2⟩, (r5.2.2.2 2 (by omega)).trans f4.2, t5⟩ (r4.tr r5 (by omega) (by omega))
set_option maxHeartbeats 1000000 in
theorem X0i_3 {L5 : am_L} {U : Int} (h200 : 200 ≤ x) (n5 : nx L5 = x + 17) (u5 : us L5 = U) (k5 : kd L5 x = 0) (k : ∀ La, nx La = x + 80 → us La = U + 2686 → kd La x = 0 → (ClL La (x + 17) ∧ fF La x 7 = x + 17 ∧ ClL La (x + 48) ∧ fF La x 8 = x + 48 ∧ kd La (x + 79) = 113 ∧ ln La (x + 79) = 30 ∧ fF La x 9 = x + 79) → LX L5 La (x + 17) 7 x → am_X G mX0_init (d + 440) 92 [aR x, aU] [] La h Q) : am_X G mX0_init (d + 440) 61 [aR x, aU] [] L5 h Q := by
  refine x_aload_0 dX0_init_61 ?_
  refine x_new dX0_init_62 am_k5 q407 q408 q125 rfl (fun z62 => ?_)
  refine x_dup dX0_init_65 rfl ?_
  refine x_callIN0 dX0_init_66 rfl okX5_init rfl rfl q409 q410 (by first | omega | (simp only [kd_pf, kd_al, true_and, and_true]; (repeat (first | rw [if_neg (by omega)] | rw [if_pos (by omega)] | rw [if_pos trivial])); omega)) rfl (C_X5_init (by rw [kd_al, if_pos rfl]) rfl (by omega) (fun L6 t6 n6 u6 b6 => (x_k0 ?_)))
  have kx6 : kd L6 x = 0 := by rw [(b6 x (by omega)).1, kd_al, if_neg (by omega)]; exact k5
  refine x_putCR dX0_init_69 fl578_0 rfl trivial rfl rfl (by first | (exact MkL.k0 (by assumption)) | (first | assumption | (simp only [kd_pf, kd_al, true_and, and_true]; (repeat (first | rw [if_neg (by omega)] | rw [if_pos (by omega)] | rw [if_pos trivial])); first | done | assumption | rfl))) (by omega) ?_
  refine y_obj (P := fun L' => ClL L' (x + 17)) (x + 17) (x + 48) U (U + 1328) n5 u5 k5 (by omega) (by omega) (by rw [u6, us_al]; omega) (by rw [n5] at b6; exact b6) (by omega) (fun L' r => by rw [n5] at t6; exact t6.lx r (by omega) (by omega)) (fun L7 n7 u7 k7 f7 r7 => ?_)
  refine x_aload_0 dX0_init_72 ?_
  refine x_new dX0_init_73 am_k5 q407 q408 q125 rfl (fun z73 => ?_)
  refine x_dup dX0_init_76 rfl ?_
  refine x_callIN0 dX0_init_77 rfl okX5_init rfl rfl q409 q410 (by first | omega | (simp only [kd_pf, kd_al, true_and, and_true]; (repeat (first | rw [if_neg (by omega)] | rw [if_pos (by omega)] | rw [if_pos trivial])); omega)) rfl (C_X5_init (by rw [kd_al, if_pos rfl]) rfl (by omega) (fun L8 t8 n8 u8 b8 => (x_k0 ?_)))
  have kx8 : kd L8 x = 0 := by rw [(b8 x (by omega)).1, kd_al, if_neg (by omega)]; exact k7
  refine x_putCR dX0_init_80 fl579_0 rfl trivial rfl rfl (by first | (exact MkL.k0 (by assumption)) | (first | assumption | (simp only [kd_pf, kd_al, true_and, and_true]; (repeat (first | rw [if_neg (by omega)] | rw [if_pos (by omega)] | rw [if_pos trivial])); first | done | assumption | rfl))) (by omega) ?_
  refine y_obj (P := fun L' => ClL L' (x + 48)) (x + 48) (x + 79) (U + 1328) (U + 2656) n7 u7 k7 (by omega) (by omega) (by rw [u8, us_al]; omega) (by rw [n7] at b8; exact b8) (by omega) (fun L' r => by rw [n7] at t8; exact t8.lx r (by omega) (by omega)) (fun L9 n9 u9 k9 f9 r9 => ?_)
  refine x_aload_0 dX0_init_83 ?_
  refine x_bipush dX0_init_84 rfl ?_
  refine x_newA (k := 113) dX0_init_86 (by decide) (by decide) rfl q407 q477 (by omega) (fun z86 => ?_)
  refine x_putCR dX0_init_89 fl580_0 rfl trivial rfl rfl (by first | (exact MkL.k0 (by assumption)) | (first | assumption | (simp only [kd_pf, kd_al, true_and, and_true]; (repeat (first | rw [if_neg (by omega)] | rw [if_pos (by omega)] | rw [if_pos trivial])); first | done | assumption | rfl))) (by omega) ?_
  refine y_arr (x + 79) (x + 80) (U + 2656) (U + 2686) n9 u9 k9 (by omega) (by omega) (by omega) (fun La na ua ka fa ra => ?_)
  have s7 : LX L7 La (x + 48) 8 x := r9.tr ra (by omega) (by omega)
  exact k La na ua ka ⟨f7.1.lx s7 (by omega) (by omega), (s7.2.2.2 7 (by omega)).trans f7.2, f9.1.lx ra (by omega) (by omega), (ra.2.2.2 8 (by omega)).trans f9.2, fa.1, fa.2.1, fa.2.2⟩ (r7.tr s7 (by omega) (by omega))
set_option maxHeartbeats 1000000 in
theorem X0i_b {La : am_L} {U : Int} (h200 : 200 ≤ x) (na : nx La = x + 80) (ua : us La = U) (ka : kd La x = 0) (k : ∀ Lg, nx Lg = x + 174 → us Lg = U + 3987 → kd Lg x = 0 → fF Lg x 10 = x + 80 → LX La Lg (x + 80) 10 x → Sl Lg (x + 80) 3 (x + 81) 3 → am_X G mX0_init (d + 440) 130 [aR x, aU] [] Lg h Q) : am_X G mX0_init (d + 440) 92 [aR x, aU] [] La h Q := by
  refine x_aload_0 dX0_init_92 ?_
  refine x_iconst dX0_init_93 ?_
  refine x_newA (k := 113) dX0_init_94 (by decide) (by decide) rfl q407 q477 (by omega) (fun z94 => ?_)
  rw [na]
  refine y_gen (fun Lb eb => ?_)
  have nb : nx Lb = x + 81 := by rw [eb, nx_al]; omega
  have ub : us Lb = U + 3 := by rw [eb, us_al]; omega
  have sb : Sl Lb (x + 80) 3 (x + 81) 0 := ⟨by rw [eb, kd_al, if_pos (by omega)], by rw [eb, ln_al, if_pos (by omega)], fun k z0 z1 => by omega⟩
  have rb : LX La Lb (x + 80) 10 x := by rw [eb]; exact (LX.rf La (x + 80) 10 x).al (by omega) (by omega)
  clear eb
  refine x_dup dX0_init_97 rfl ?_
  refine x_iconst dX0_init_98 ?_
  refine x_new dX0_init_99 am_k5 q407 q408 q125 rfl (fun z99 => ?_)
  rw [nb]
  refine x_dup dX0_init_102 rfl ?_
  refine x_callIN0 dX0_init_103 rfl okX5_init rfl rfl q409 q410 (by first | omega | (simp only [kd_pf, kd_al, true_and, and_true]; (repeat (first | rw [if_neg (by omega)] | rw [if_pos (by omega)] | rw [if_pos trivial])); omega)) rfl (C_X5_init (c := x + 81) (by rw [kd_al, if_pos (by omega)]) (by rw [nx_al]; omega) (by omega) (fun Lc tc nc uc bc => (x_k0 ?_)))
  have ac : kd Lc (x + 80) = 113 := by rw [(bc (x + 80) (by omega)).1, kd_al, if_neg (by omega)]; exact sb.1
  have lc : ln Lc (x + 80) = 3 := by rw [(bc (x + 80) (by omega)).2.1, ln_al, if_neg (by omega)]; exact sb.2.1
  have kc := tc.k0
  refine x_aast (k := 113) dX0_init_106 (by first | assumption | (simp only [kd_pf, kd_al, true_and, and_true]; (repeat (first | rw [if_neg (by omega)] | rw [if_pos (by omega)] | rw [if_pos trivial])); first | done | assumption | rfl)) (by decide) (by decide) (by omega) (by omega) rfl (by first | assumption | (simp only [kd_pf, kd_al, true_and, and_true]; (repeat (first | rw [if_neg (by omega)] | rw [if_pos (by omega)] | rw [if_pos trivial])); first | done | assumption | rfl)) am_k5 (Or.inr rfl) ?_
  refine y_slot (x + 80) 3 (x + 81) 0 (x + 81) 0 (U + 1331) sb (by omega) (by omega) nb (by rw [uc, us_al]; omega) (by omega) tc (by omega) bc (fun Ld nd ud sd rd => ?_)
  clear tc nc uc bc ac lc kc
  refine x_dup dX0_init_107 rfl ?_
  refine x_iconst dX0_init_108 ?_
  refine x_new dX0_init_109 am_k5 q407 q408 q125 rfl (fun z109 => ?_)
  rw [show nx Ld = x + 112 by omega]
  refine x_dup dX0_init_112 rfl ?_
  refine x_callIN0 dX0_init_113 rfl okX5_init rfl rfl q409 q410 (by first | omega | (simp only [kd_pf, kd_al, true_and, and_true]; (repeat (first | rw [if_neg (by omega)] | rw [if_pos (by omega)] | rw [if_pos trivial])); omega)) rfl (C_X5_init (c := x + 112) (by rw [kd_al, if_pos (by omega)]) (by rw [nx_al]; omega) (by omega) (fun Lc tc nc uc bc => (x_k0 ?_)))
  have ac : kd Lc (x + 80) = 113 := by rw [(bc (x + 80) (by omega)).1, kd_al, if_neg (by omega)]; exact sd.1
  have lc : ln Lc (x + 80) = 3 := by rw [(bc (x + 80) (by omega)).2.1, ln_al, if_neg (by omega)]; exact sd.2.1
  have kc := tc.k0
  refine x_aast (k := 113) dX0_init_116 (by first | assumption | (simp only [kd_pf, kd_al, true_and, and_true]; (repeat (first | rw [if_neg (by omega)] | rw [if_pos (by omega)] | rw [if_pos trivial])); first | done | assumption | rfl)) (by decide) (by decide) (by omega) (by omega) rfl (by first | assumption | (simp only [kd_pf, kd_al, true_and, and_true]; (repeat (first | rw [if_neg (by omega)] | rw [if_pos (by omega)] | rw [if_pos trivial])); first | done | assumption | rfl)) am_k5 (Or.inr rfl) ?_
  refine y_slot (x + 80) 3 (x + 81) 1 (x + 112) 0 (U + 2659) sd (by omega) (by omega) (by omega) (by rw [uc, us_al]; omega) (by omega) tc (by omega) bc (fun Le ne ue se re => ?_)
  clear tc nc uc bc ac lc kc
  refine x_dup dX0_init_117 rfl ?_
  refine x_iconst dX0_init_118 ?_
  refine x_new dX0_init_119 am_k5 q407 q408 q125 rfl (fun z119 => ?_)
  rw [show nx Le = x + 143 by omega]
  refine x_dup dX0_init_122 rfl ?_
  refine x_callIN0 dX0_init_123 rfl okX5_init rfl rfl q409 q410 (by first | omega | (simp only [kd_pf, kd_al, true_and, and_true]; (repeat (first | rw [if_neg (by omega)] | rw [if_pos (by omega)] | rw [if_pos trivial])); omega)) rfl (C_X5_init (c := x + 143) (by rw [kd_al, if_pos (by omega)]) (by rw [nx_al]; omega) (by omega) (fun Lc tc nc uc bc => (x_k0 ?_)))
  have ac : kd Lc (x + 80) = 113 := by rw [(bc (x + 80) (by omega)).1, kd_al, if_neg (by omega)]; exact se.1
  have lc : ln Lc (x + 80) = 3 := by rw [(bc (x + 80) (by omega)).2.1, ln_al, if_neg (by omega)]; exact se.2.1
  have kc := tc.k0
  refine x_aast (k := 113) dX0_init_126 (by first | assumption | (simp only [kd_pf, kd_al, true_and, and_true]; (repeat (first | rw [if_neg (by omega)] | rw [if_pos (by omega)] | rw [if_pos trivial])); first | done | assumption | rfl)) (by decide) (by decide) (by omega) (by omega) rfl (by first | assumption | (simp only [kd_pf, kd_al, true_and, and_true]; (repeat (first | rw [if_neg (by omega)] | rw [if_pos (by omega)] | rw [if_pos trivial])); first | done | assumption | rfl)) am_k5 (Or.inr rfl) ?_
  refine y_slot (x + 80) 3 (x + 81) 2 (x + 143) 0 (U + 3987) se (by omega) (by omega) (by omega) (by rw [uc, us_al]; omega) (by omega) tc (by omega) bc (fun Lf nf uf sf rf => ?_)
  clear tc nc uc bc ac lc kc
  have rg : LX La Lf (x + 80) 10 x := ((rb.tr (rd.sw 10 (by omega) (by omega) (by omega) (by omega)) (Int.le_refl _) (Int.le_refl _)).tr (re.sw 10 (by omega) (by omega) (by omega) (by omega)) (Int.le_refl _) (Int.le_refl _)).tr (rf.sw 10 (by omega) (by omega) (by omega) (by omega)) (Int.le_refl _) (Int.le_refl _)
  have kf : kd Lf x = 0 := rg.2.1.trans ka
  clear rb rd re rf sb sd se nb ub nd ud ne ue
  refine x_putCR dX0_init_127 fl581_0 rfl trivial rfl rfl (by first | (exact MkL.k0 (by assumption)) | (first | assumption | (simp only [kd_pf, kd_al, true_and, and_true]; (repeat (first | rw [if_neg (by omega)] | rw [if_pos (by omega)] | rw [if_pos trivial])); first | done | assumption | rfl))) (by omega) ?_
  refine y_put (x + 174) (x + 174) (U + 3987) 10 (x + 80) (by omega) uf kf (fun Lg ng ug kg fg rh => ?_)
  have ri : LX La Lg (x + 80) 10 x := rg.tr rh (by omega) (Int.le_refl _)
  have sg : Sl Lg (x + 80) 3 (x + 81) 3 := sf.lx rh (by omega) (by omega) (by omega) (by omega)
  exact k Lg ng ug kg fg ri sg
end XINIT6
