/-! THREADTOWN'S CONSTRUCTOR: left, told, lies -/
set_option maxRecDepth 100000
section XINIT9
variable {G : am_G} {L : am_L} {h : am_H} {x : Int} {d : Nat} {Q : am_O → am_L → am_H → Prop}
theorem y_lb {M : am_M} {pc : Nat} {ls st : List AV} {L1 : am_L} {P : am_L → Prop} {j : Int} (c c' U' : Int) (hc : nx L = c) (kx : kd L x = 0) (hx : x < c) (hn : nx L1 = c') (hu' : us L1 = U') (hl : LB L L1 c) (hcc : c ≤ c') (hP : ∀ L', LX L1 L' c' j x → P L') (kk : ∀ L', nx L' = c' → us L' = U' → kd L' x = 0 → (P L' ∧ fF L' x j = c) → LX L L' c j x → am_X G M d pc ls st L' h Q) : am_X G M d pc ls st (am_pf L1 x j (nx L)) h Q := by
  subst hc
  have r1 : LX L L1 (nx L) j x := (LX.rf L (nx L) j x).lb hl (Int.le_refl _) hx
  refine kk _ ?_ ?_ ?_ ⟨hP _ ((LX.rf L1 c' j x).px (Int.le_refl _)), ?_⟩ ?_
  · rw [nx_pf, hn]
  · rw [us_pf, hu']
  · rw [kd_pf, r1.2.1]
    exact kx
  · rw [fF_pf, if_pos ⟨rfl, rfl⟩]
  · exact r1.px (Int.le_refl _)
/-- left, lies at x as MkL says -/
def LfN (L : am_L) (x : Int) : Prop := kd L (x + 183) = 110 ∧ ln L (x + 183) = 64 ∧ ∀ k, 0 ≤ k → k < 64 → fF L (x + 183) k = x + 184 + k ∧ kd L (x + 184 + k) = 100 ∧ ln L (x + 184 + k) = 6
def LiN (L : am_L) (x : Int) : Prop := kd L (x + 249) = 111 ∧ ln L (x + 249) = 7 ∧ (∀ k, 0 ≤ k → k < 7 → fF L (x + 249) k = x + 250 + 3 * k ∧ kd L (x + 250 + 3 * k) = 110 ∧ ln L (x + 250 + 3 * k) = 2) ∧ ∀ k c, 0 ≤ k → k < 7 → 0 ≤ c → c < 2 → fF L (x + 250 + 3 * k) c = x + 251 + 3 * k + c ∧ kd L (x + 251 + 3 * k + c) = 100 ∧ ln L (x + 251 + 3 * k + c) = 288
theorem LfN.lx {L L1 : am_L} {c J x y : Int} (r : LfN L x) (a : LX L L1 c J y) (h : x + 248 ≤ c) (hx : y < x + 183 ∨ x + 248 ≤ y) : LfN L1 x := by
  have g0 := a.1 (x + 183) (by omega) (by omega)
  refine ⟨g0.1.trans r.1, g0.2.1.trans r.2.1, fun k z0 z1 => ?_⟩
  have g1 := a.1 (x + 184 + k) (by omega) (by omega)
  obtain ⟨s1, s2, s3⟩ := r.2.2 k z0 z1
  exact ⟨(g0.2.2 k).trans s1, g1.1.trans s2, g1.2.1.trans s3⟩
theorem LiN.lx {L L1 : am_L} {c J x y : Int} (r : LiN L x) (a : LX L L1 c J y) (h : x + 271 ≤ c) (hx : y < x + 249 ∨ x + 271 ≤ y) : LiN L1 x := by
  have g0 := a.1 (x + 249) (by omega) (by omega)
  refine ⟨g0.1.trans r.1, g0.2.1.trans r.2.1, fun k z0 z1 => ?_, fun k c z0 z1 z2 z3 => ?_⟩
  · have g1 := a.1 (x + 250 + 3 * k) (by omega) (by omega)
    obtain ⟨s1, s2, s3⟩ := r.2.2.1 k z0 z1
    exact ⟨(g0.2.2 k).trans s1, g1.1.trans s2, g1.2.1.trans s3⟩
  · have g1 := a.1 (x + 250 + 3 * k) (by omega) (by omega)
    have g2 := a.1 (x + 251 + 3 * k + c) (by omega) (by omega)
    obtain ⟨s1, s2, s3⟩ := r.2.2.2 k c z0 z1 z2 z3
    exact ⟨(g1.2.2 c).trans s1, g2.1.trans s2, g2.2.1.trans s3⟩
theorem LfN.of {x : Int} (hn : nx L = x + 183) : LfN (am_m2 L 64 6) x := by
  refine ⟨by rw [kd_m2, if_pos hn.symm], by rw [ln_m2, if_pos hn.symm], fun k z0 z1 => ⟨?_, ?_, ?_⟩⟩
  · rw [fF_m2, if_pos ⟨hn.symm, z0, z1⟩, hn]
    omega
  · rw [kd_m2, if_neg (by omega), if_pos ⟨by omega, by omega⟩]
  · rw [ln_m2, if_neg (by omega), if_pos ⟨by omega, by omega⟩]
theorem LiN.of {x : Int} (hn : nx L = x + 249) : LiN (am_m3 L) x := by
  refine ⟨by rw [kd_m3, if_pos hn.symm], by rw [ln_m3, if_pos hn.symm], fun k z0 z1 => ⟨?_, ?_, ?_⟩, fun k c z0 z1 z2 z3 => ⟨?_, ?_, ?_⟩⟩
  · rw [fF_m3, if_pos ⟨hn.symm, z0, z1⟩, hn]
    omega
  · rw [kd_m3, if_neg (by omega), if_pos ⟨by omega, by omega⟩, if_pos (by omega)]
  · rw [ln_m3, if_neg (by omega), if_pos ⟨by omega, by omega⟩, if_pos (by omega)]
  · rw [fF_m3, if_neg (by omega), if_pos ⟨by omega, by omega, by omega, z2, z3⟩]
    omega
  · rw [kd_m3, if_neg (by omega), if_pos ⟨by omega, by omega⟩, if_neg (by omega)]
  · rw [ln_m3, if_neg (by omega), if_pos ⟨by omega, by omega⟩, if_neg (by omega)]
set_option maxHeartbeats 1000000 in
theorem X0i_d2 {L0 : am_L} {U : Int} (h200 : 200 ≤ x) (n0 : nx L0 = x + 183) (u0 : us L0 = U) (k0 : kd L0 x = 0) (k : ∀ Le, nx Le = x + 271 → us Le = U + 4508 → kd Le x = 0 → ((LfN Le x ∧ fF Le x 15 = x + 183) ∧ (kd Le (x + 248) = 100 ∧ ln Le (x + 248) = 7 ∧ fF Le x 16 = x + 248) ∧ (LiN Le x ∧ fF Le x 19 = x + 249)) → LX L0 Le (x + 183) 15 x → am_X G mX0_init (d + 440) 246 [aR x, aU] [] Le h Q) : am_X G mX0_init (d + 440) 212 [aR x, aU] [] L0 h Q := by
  refine x_aload_0 dX0_init_212 ?_
  refine x_bipush dX0_init_213 rfl ?_
  refine x_bipush dX0_init_215 rfl ?_
  refine x_multi2 dX0_init_217 q518 (by omega) (by omega) ?_
  refine x_putCR dX0_init_221 fl586_0 rfl trivial rfl rfl (by first | (exact MkL.k0 (by assumption)) | (first | assumption | (simp only [kd_pf, kd_al, kd_m2, kd_m3, nx_pf, nx_al, true_and, and_true]; (repeat (first | rw [if_neg (by omega)] | rw [if_pos (by omega)] | rw [if_pos trivial])); first | done | assumption | rfl))) (by omega) ?_
  refine y_lb (P := fun L' => LfN L' x) (x + 183) (x + 248) (U + 448) n0 k0 (by omega) (by rw [nx_m2]; omega) (by rw [us_m2]; omega) ((LB.rf L0 (x + 183)).m2 (by omega)) (by omega) (fun L' r => (LfN.of n0).lx r (by omega) (by omega)) (fun L1 n1 u1 k1 f1 r1 => ?_)
  refine x_aload_0 dX0_init_224 ?_
  refine x_bipush dX0_init_225 rfl ?_
  refine x_newI dX0_init_227 q406 (by omega) (fun z227 => ?_)
  refine x_putCR dX0_init_229 fl587_0 rfl trivial rfl rfl (by first | (exact MkL.k0 (by assumption)) | (first | assumption | (simp only [kd_pf, kd_al, kd_m2, kd_m3, nx_pf, nx_al, true_and, and_true]; (repeat (first | rw [if_neg (by omega)] | rw [if_pos (by omega)] | rw [if_pos trivial])); first | done | assumption | rfl))) (by omega) ?_
  refine y_arr (x + 248) (x + 249) (U + 448) (U + 455) n1 u1 k1 (by omega) (by omega) (by omega) (fun L2 n2 u2 k2 f2 r2 => ?_)
  refine x_aload_0 dX0_init_232 ?_
  refine x_bipush dX0_init_233 rfl ?_
  refine x_iconst dX0_init_235 ?_
  refine x_sipush dX0_init_236 rfl ?_
  refine x_multi3 dX0_init_239 q519 ?_
  refine x_putCR dX0_init_243 fl590_0 rfl trivial rfl rfl (by first | (exact MkL.k0 (by assumption)) | (first | assumption | (simp only [kd_pf, kd_al, kd_m2, kd_m3, nx_pf, nx_al, true_and, and_true]; (repeat (first | rw [if_neg (by omega)] | rw [if_pos (by omega)] | rw [if_pos trivial])); first | done | assumption | rfl))) (by omega) ?_
  refine y_lb (P := fun L' => LiN L' x) (x + 249) (x + 271) (U + 4508) n2 k2 (by omega) (by rw [nx_m3]; omega) (by rw [us_m3]; omega) (fun y z => m3_old y (by omega)) (by omega) (fun L' r => (LiN.of n2).lx r (by omega) (by omega)) (fun L3 n3 u3 k3 f3 r3 => ?_)
  have s1 : LX L1 L3 (x + 248) 16 x := r2.tr r3 (by omega) (by omega)
  exact k L3 n3 u3 k3 ⟨⟨f1.1.lx s1 (by omega) (by omega), (s1.2.2.2 15 (by omega)).trans f1.2⟩, ⟨(r3.1 _ (by omega) (by omega)).1.trans f2.1, (r3.1 _ (by omega) (by omega)).2.1.trans f2.2.1, (r3.2.2.2 16 (by omega)).trans f2.2.2⟩, f3⟩ (r1.tr s1 (by omega) (by omega))
end XINIT9
