/-! THREADTOWN'S CONSTRUCTOR: the thirty cloths of the past; what the text tells at the start -/
set_option maxRecDepth 100000
section XINIT10
variable {G : am_G} {L : am_L} {h : am_H} {x : Int} {d : Nat} {Q : am_O → am_L → am_H → Prop}
set_option maxHeartbeats 1000000 in
theorem X0i_e {L0 : am_L} {U : Int} (h200 : 200 ≤ x) (n0 : nx L0 = x + 275) (u0 : us L0 = U) (k0 : kd L0 x = 0) (a0 : kd L0 (x + 79) = 113) (l0 : ln L0 (x + 79) = 30) (p0 : fF L0 x 9 = x + 79) (k : ∀ Le, nx Le = x + 1205 → us Le = U + 39840 → Sl Le (x + 79) 30 (x + 275) 30 → LX L0 Le (x + 275) 0 (x + 79) → am_X G mX0_init (d + 440) 305 [aR x, aI 30] [] Le h Q) : am_X G mX0_init (d + 440) 280 [aR x, aI 0] [] L0 h Q := by
  refine x_up1 30 (fun i Li => 0 ≤ i → i ≤ 30 → nx Li = x + 275 + 31 * i → us Li = U + 1328 * i → Sl Li (x + 79) 30 (x + 275) i → LX L0 Li (x + 275) 0 (x + 79) → am_X G mX0_init (d + 440) 280 [aR x, aI i] [] Li h Q) (fun i Li ih => ?_) 0 L0 (by omega) (by omega) (by omega) (by omega) ⟨a0, l0, fun k z0 z1 => by omega⟩ (LX.rf _ _ _ _)
  intro z0 z1 nl ul sl rl
  have kl : kd Li x = 0 := (rl.1 x (by omega) (by omega)).1.trans k0
  have pl : fF Li x 9 = x + 79 := ((rl.1 x (by omega) (by omega)).2.2 9).trans p0
  refine x_iload_1 dX0_init_280 ?_
  refine x_bipush dX0_init_281 rfl ?_
  refine x_icmp_ge (tgt := 305) dX0_init_283 rfl (by omega) (by omega) (fun c283 => ?_) (fun c283 => ?_)
  · rw [show i = 30 by omega] at nl ul sl ⊢
    exact k Li (by omega) (by omega) sl rl
  · refine x_aload_0 dX0_init_286 ?_
    refine x_getR dX0_init_287 fl580_0 rfl (by first | (exact MkL.k0 (by assumption)) | (first | assumption | (simp only [kd_pf, kd_al, kd_m2, kd_m3, nx_pf, nx_al, true_and, and_true]; (repeat (first | rw [if_neg (by omega)] | rw [if_pos (by omega)] | rw [if_pos trivial])); first | done | assumption | rfl))) (by exact pl) ?_
    refine x_iload_1 dX0_init_290 ?_
    refine x_new dX0_init_291 am_k5 q407 q408 q125 rfl (fun z291 => ?_)
    rw [nl]
    refine x_dup dX0_init_294 rfl ?_
    refine x_callIN0 dX0_init_295 rfl okX5_init rfl rfl q409 q410 (by first | omega | (simp only [kd_al]; rw [if_pos (by omega)]; decide)) rfl (C_X5_init (c := x + 275 + 31 * i) (by rw [kd_al, if_pos (by omega)]) (by rw [nx_al]; omega) (by omega) (fun Lc tc nc uc bc => (x_k0 ?_)))
    have ac : kd Lc (x + 79) = 113 := by rw [(bc (x + 79) (by omega)).1, kd_al, if_neg (by omega)]; exact sl.1
    have lc : ln Lc (x + 79) = 30 := by rw [(bc (x + 79) (by omega)).2.1, ln_al, if_neg (by omega)]; exact sl.2.1
    have kc := tc.k0
    refine x_aast (k := 113) dX0_init_298 (by first | assumption | (simp only [kd_pf, kd_al, kd_m2, kd_m3, nx_pf, nx_al, true_and, and_true]; (repeat (first | rw [if_neg (by omega)] | rw [if_pos (by omega)] | rw [if_pos trivial])); first | done | assumption | rfl)) (by decide) (by decide) (by omega) (by omega) rfl (by first | assumption | (simp only [kd_pf, kd_al, kd_m2, kd_m3, nx_pf, nx_al, true_and, and_true]; (repeat (first | rw [if_neg (by omega)] | rw [if_pos (by omega)] | rw [if_pos trivial])); first | done | assumption | rfl)) am_k5 (Or.inr rfl) ?_
    refine y_slot (x + 79) 30 (x + 275) i (x + 275 + 31 * i) 0 (U + 1328 * (i + 1)) sl z0 rfl nl (by rw [uc, us_al]; omega) (by omega) tc (by omega) bc (fun Ld nd ud sd rd => ?_)
    refine x_iinc1 dX0_init_299 rfl ?_
    refine x_goto (tgt := 280) dX0_init_302 rfl ?_
    exact ih (by omega) Ld (by omega) (by omega) (by omega) ud sd (rl.tr (rd.up (Int.le_refl _) z0) (Int.le_refl _) (Int.le_refl _))
/-- an empty Text tells nothing -/
theorem TxN.t0 {t : Int} (r : TxN L t) (h1 : kd L 1 = 116 ∧ 0 ≤ ln L 1) : TxL L t T0 := by
  obtain ⟨r1, r2, r3, r4, r5, r6, r7, r8, r9, r10, r11, r12, r13, s1, s2, s3, s4, s5, s6, s7, s8, s9, s10, s11, s12, s13, s14⟩ := r
  refine ⟨r1, ⟨by rw [r2]; exact s1, by rw [r2]; exact s4, by decide, by rw [r2, s3]; exact h1.1, by rw [r2, s3]; exact h1.2, fun i z0 z1 => ?_⟩, fun m z0 z1 => ?_, r8, r9, r10, r12, ⟨by rw [r3]; exact s5, by rw [r3]; exact s6, fun p z0 z1 => ?_⟩, ⟨by rw [r4]; exact s7, by rw [r4]; exact s8, fun p z0 z1 => ?_⟩, Or.inl ⟨rfl, r13⟩⟩
  · have e : tM T0 = 0 := rfl
    omega
  · have e : tM T0 = 0 := rfl
    omega
  · have e : tP T0 = 0 := rfl
    omega
  · have e : tP T0 = 0 := rfl
    omega
end XINIT10
