/-! THREADTOWN'S CONSTRUCTOR: dusks, arrays -/
set_option maxRecDepth 100000
/-- the five dusks, and the array of them at b -/
def DkN (L : am_L) (b : Int) : Prop := kd L b = 114 ∧ ln L b = 5 ∧ fF L b 0 = b + 1 ∧ fF L b 1 = b + 2 ∧ fF L b 2 = b + 3 ∧ fF L b 3 = b + 4 ∧ fF L b 4 = b + 5 ∧ kd L (b + 1) = 8 ∧ kd L (b + 2) = 9 ∧ kd L (b + 3) = 10 ∧ kd L (b + 4) = 11 ∧ kd L (b + 5) = 12
theorem DkN.lx {L L1 : am_L} {b c J x : Int} (r : DkN L b) (a : LX L L1 c J x) (h : b + 6 ≤ c) (hx : x < b ∨ b + 6 ≤ x) : DkN L1 b := by
  have g : ∀ i, 0 ≤ i → i < 6 → kd L1 (b + i) = kd L (b + i) := fun i z0 z1 => (a.1 (b + i) (by omega) (by omega)).1
  have g0 : kd L1 b = kd L b ∧ ln L1 b = ln L b ∧ ∀ j, fF L1 b j = fF L b j := a.1 b (by omega) (by omega)
  obtain ⟨r1, r2, r3, r4, r5, r6, r7, s1, s2, s3, s4, s5⟩ := r
  exact ⟨g0.1.trans r1, g0.2.1.trans r2, (g0.2.2 _).trans r3, (g0.2.2 _).trans r4, (g0.2.2 _).trans r5, (g0.2.2 _).trans r6, (g0.2.2 _).trans r7, (g 1 (by omega) (by omega)).trans s1, (g 2 (by omega) (by omega)).trans s2, (g 3 (by omega) (by omega)).trans s3, (g 4 (by omega) (by omega)).trans s4, (g 5 (by omega) (by omega)).trans s5⟩
section XINIT7
variable {G : am_G} {L : am_L} {h : am_H} {x : Int} {d : Nat} {Q : am_O → am_L → am_H → Prop}
set_option maxHeartbeats 1000000 in
theorem X0i_c {Lg : am_L} {U : Int} (h200 : 200 ≤ x) (ng : nx Lg = x + 174) (ug : us Lg = U) (kg : kd Lg x = 0) (k : ∀ Li, nx Li = x + 180 → us Li = U + 5 → kd Li x = 0 → DkN Li (x + 174) ∧ fF Li x 11 = x + 174 → LX Lg Li (x + 174) 11 x → am_X G mX0_init (d + 440) 188 [aR x, aU] [] Li h Q) : am_X G mX0_init (d + 440) 130 [aR x, aU] [] Lg h Q := by
  refine x_aload_0 dX0_init_130 ?_
  refine x_iconst dX0_init_131 ?_
  refine x_newA (k := 114) dX0_init_132 (by decide) (by decide) rfl q478 q479 (by first | omega | (simp only [nx_pf, nx_al]; omega)) (fun z132 => ?_)
  refine x_dup dX0_init_135 rfl ?_
  refine x_iconst dX0_init_136 ?_
  refine x_new dX0_init_137 am_k8 q480 q481 q128 rfl (fun z137 => ?_)
  refine x_dup dX0_init_140 rfl ?_
  refine x_callIN0 dX0_init_141 rfl okX8_init rfl rfl q482 q483 (by first | omega | (simp only [kd_pf, kd_al, nx_pf, nx_al, true_and, and_true]; (repeat (first | rw [if_neg (by omega)] | rw [if_pos (by omega)] | rw [if_pos trivial])); omega)) rfl (C_X8_init (by simp only [kd_pf, kd_al]; rw [if_pos trivial]; decide) (x_k0 ?_))
  refine x_aast (k := 114) dX0_init_144 (by first | assumption | (simp only [kd_pf, kd_al, nx_pf, nx_al, true_and, and_true]; (repeat (first | rw [if_neg (by omega)] | rw [if_pos (by omega)] | rw [if_pos trivial])); first | done | assumption | rfl)) (by decide) (by decide) (by first | omega | (simp only [nx_pf, nx_al]; omega)) (by first | omega | (simp only [ln_pf, ln_al, nx_pf, nx_al, true_and, and_true]; (repeat (first | rw [if_neg (by omega)] | rw [if_pos (by omega)] | rw [if_pos trivial])); omega)) rfl (by first | assumption | (simp only [kd_pf, kd_al, nx_pf, nx_al, true_and, and_true]; (repeat (first | rw [if_neg (by omega)] | rw [if_pos (by omega)] | rw [if_pos trivial])); first | done | assumption | rfl)) am_k8 (Or.inl q2267) ?_
  refine x_dup dX0_init_145 rfl ?_
  refine x_iconst dX0_init_146 ?_
  refine x_new dX0_init_147 am_k9 q490 q491 q129 rfl (fun z147 => ?_)
  refine x_dup dX0_init_150 rfl ?_
  refine x_callIN0 dX0_init_151 rfl okX9_init rfl rfl q492 q493 (by first | omega | (simp only [kd_pf, kd_al, nx_pf, nx_al, true_and, and_true]; (repeat (first | rw [if_neg (by omega)] | rw [if_pos (by omega)] | rw [if_pos trivial])); omega)) rfl (C_X9_init (by simp only [kd_pf, kd_al]; rw [if_pos trivial]; decide) (x_k0 ?_))
  refine x_aast (k := 114) dX0_init_154 (by first | assumption | (simp only [kd_pf, kd_al, nx_pf, nx_al, true_and, and_true]; (repeat (first | rw [if_neg (by omega)] | rw [if_pos (by omega)] | rw [if_pos trivial])); first | done | assumption | rfl)) (by decide) (by decide) (by first | omega | (simp only [nx_pf, nx_al]; omega)) (by first | omega | (simp only [ln_pf, ln_al, nx_pf, nx_al, true_and, and_true]; (repeat (first | rw [if_neg (by omega)] | rw [if_pos (by omega)] | rw [if_pos trivial])); omega)) rfl (by first | assumption | (simp only [kd_pf, kd_al, nx_pf, nx_al, true_and, and_true]; (repeat (first | rw [if_neg (by omega)] | rw [if_pos (by omega)] | rw [if_pos trivial])); first | done | assumption | rfl)) am_k9 (Or.inl q2268) ?_
  refine x_dup dX0_init_155 rfl ?_
  refine x_iconst dX0_init_156 ?_
  refine x_new dX0_init_157 am_k10 q497 q498 q130 rfl (fun z157 => ?_)
  refine x_dup dX0_init_160 rfl ?_
  refine x_callIN0 dX0_init_161 rfl okX10_init rfl rfl q499 q500 (by first | omega | (simp only [kd_pf, kd_al, nx_pf, nx_al, true_and, and_true]; (repeat (first | rw [if_neg (by omega)] | rw [if_pos (by omega)] | rw [if_pos trivial])); omega)) rfl (C_X10_init (by simp only [kd_pf, kd_al]; rw [if_pos trivial]; decide) (x_k0 ?_))
  refine x_aast (k := 114) dX0_init_164 (by first | assumption | (simp only [kd_pf, kd_al, nx_pf, nx_al, true_and, and_true]; (repeat (first | rw [if_neg (by omega)] | rw [if_pos (by omega)] | rw [if_pos trivial])); first | done | assumption | rfl)) (by decide) (by decide) (by first | omega | (simp only [nx_pf, nx_al]; omega)) (by first | omega | (simp only [ln_pf, ln_al, nx_pf, nx_al, true_and, and_true]; (repeat (first | rw [if_neg (by omega)] | rw [if_pos (by omega)] | rw [if_pos trivial])); omega)) rfl (by first | assumption | (simp only [kd_pf, kd_al, nx_pf, nx_al, true_and, and_true]; (repeat (first | rw [if_neg (by omega)] | rw [if_pos (by omega)] | rw [if_pos trivial])); first | done | assumption | rfl)) am_k10 (Or.inl q2269) ?_
  refine x_dup dX0_init_165 rfl ?_
  refine x_iconst dX0_init_166 ?_
  refine x_new dX0_init_167 am_k11 q504 q505 q131 rfl (fun z167 => ?_)
  refine x_dup dX0_init_170 rfl ?_
  refine x_callIN0 dX0_init_171 rfl okX11_init rfl rfl q506 q507 (by first | omega | (simp only [kd_pf, kd_al, nx_pf, nx_al, true_and, and_true]; (repeat (first | rw [if_neg (by omega)] | rw [if_pos (by omega)] | rw [if_pos trivial])); omega)) rfl (C_X11_init (by simp only [kd_pf, kd_al]; rw [if_pos trivial]; decide) (x_k0 ?_))
  refine x_aast (k := 114) dX0_init_174 (by first | assumption | (simp only [kd_pf, kd_al, nx_pf, nx_al, true_and, and_true]; (repeat (first | rw [if_neg (by omega)] | rw [if_pos (by omega)] | rw [if_pos trivial])); first | done | assumption | rfl)) (by decide) (by decide) (by first | omega | (simp only [nx_pf, nx_al]; omega)) (by first | omega | (simp only [ln_pf, ln_al, nx_pf, nx_al, true_and, and_true]; (repeat (first | rw [if_neg (by omega)] | rw [if_pos (by omega)] | rw [if_pos trivial])); omega)) rfl (by first | assumption | (simp only [kd_pf, kd_al, nx_pf, nx_al, true_and, and_true]; (repeat (first | rw [if_neg (by omega)] | rw [if_pos (by omega)] | rw [if_pos trivial])); first | done | assumption | rfl)) am_k11 (Or.inl q2270) ?_
  refine x_dup dX0_init_175 rfl ?_
  refine x_iconst dX0_init_176 ?_
  refine x_new dX0_init_177 am_k12 q511 q512 q132 rfl (fun z177 => ?_)
  refine x_dup dX0_init_180 rfl ?_
  refine x_callIN0 dX0_init_181 rfl okX12_init rfl rfl q513 q514 (by first | omega | (simp only [kd_pf, kd_al, nx_pf, nx_al, true_and, and_true]; (repeat (first | rw [if_neg (by omega)] | rw [if_pos (by omega)] | rw [if_pos trivial])); omega)) rfl (C_X12_init (by simp only [kd_pf, kd_al]; rw [if_pos trivial]; decide) (x_k0 ?_))
  refine x_aast (k := 114) dX0_init_184 (by first | assumption | (simp only [kd_pf, kd_al, nx_pf, nx_al, true_and, and_true]; (repeat (first | rw [if_neg (by omega)] | rw [if_pos (by omega)] | rw [if_pos trivial])); first | done | assumption | rfl)) (by decide) (by decide) (by first | omega | (simp only [nx_pf, nx_al]; omega)) (by first | omega | (simp only [ln_pf, ln_al, nx_pf, nx_al, true_and, and_true]; (repeat (first | rw [if_neg (by omega)] | rw [if_pos (by omega)] | rw [if_pos trivial])); omega)) rfl (by first | assumption | (simp only [kd_pf, kd_al, nx_pf, nx_al, true_and, and_true]; (repeat (first | rw [if_neg (by omega)] | rw [if_pos (by omega)] | rw [if_pos trivial])); first | done | assumption | rfl)) am_k12 (Or.inl q2271) ?_
  refine y_gen (fun Lh eh => ?_)
  have nh : nx Lh = x + 180 := by rw [eh]; simp only [nx_pf, nx_al]; omega
  have uh : us Lh = U + 5 := by rw [eh]; simp only [us_pf, us_al]; omega
  have kh : kd Lh x = 0 := by
    rw [eh]
    simp only [kd_pf, kd_al, nx_pf, nx_al, ng]
    repeat (rw [if_neg (by omega)])
    exact kg
  have dh : DkN Lh (x + 174) := by
    rw [eh]
    unfold DkN
    simp only [kd_pf, kd_al, ln_pf, ln_al, fF_pf, fF_al, nx_pf, nx_al, ng]
    refine ⟨?_, ?_, ?_, ?_, ?_, ?_, ?_, ?_, ?_, ?_, ?_, ?_⟩
    all_goals (repeat (first | rw [if_neg (by omega)] | rw [if_pos (by omega)] | rw [if_pos trivial] | rw [if_pos (by exact ⟨trivial, by omega⟩)] | rw [if_pos (by exact ⟨trivial, trivial⟩)] | rw [if_pos (by exact ⟨by omega, trivial⟩)]))
    all_goals first | done | assumption | omega | rfl
  have lh : LB (am_al Lg 114 5) Lh (x + 174) := by
    rw [eh]
    refine ((((((((((LB.rf (am_al Lg 114 5) (x + 174)).al ?_).pf ?_).al ?_).pf ?_).al ?_).pf ?_).al ?_).pf ?_).al ?_).pf ?_ <;> (first | omega | (simp only [nx_pf, nx_al, ng]; omega))
  clear eh
  refine x_putCR dX0_init_185 fl582_0 rfl trivial rfl rfl (by first | (exact MkL.k0 (by assumption)) | (first | assumption | (simp only [kd_pf, kd_al, nx_pf, nx_al, true_and, and_true]; (repeat (first | rw [if_neg (by omega)] | rw [if_pos (by omega)] | rw [if_pos trivial])); first | done | assumption | rfl))) (by first | omega | (simp only [nx_pf, nx_al]; omega)) ?_
  exact y_obj (P := fun L' => DkN L' (x + 174)) (x + 174) (x + 180) U (U + 5) ng ug kg (by omega) nh uh lh (by omega) (fun L' r => dh.lx r (by omega) (by omega)) (fun Li ni ui ki fi ri => k Li ni ui ki fi ri)
end XINIT7
