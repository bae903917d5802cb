/-! THREADTOWN'S CONSTRUCTOR: the arrays behind the dusks -/
set_option maxRecDepth 100000
section XINIT8
variable {G : am_G} {L : am_L} {h : am_H} {x : Int} {d : Nat} {Q : am_O → am_L → am_H → Prop}
set_option maxHeartbeats 1000000 in
theorem X0i_d1 {L0 : am_L} {U : Int} (h200 : 200 ≤ x) (n0 : nx L0 = x + 180) (u0 : us L0 = U) (k0 : kd L0 x = 0) (k : ∀ Le, nx Le = x + 183 → us Le = U + 138 → kd Le x = 0 → ((kd Le (x + 180) = 103 ∧ ln Le (x + 180) = 3 ∧ fF Le x 12 = x + 180) ∧ (kd Le (x + 181) = 100 ∧ ln Le (x + 181) = 7 ∧ fF Le x 13 = x + 181) ∧ (kd Le (x + 182) = 100 ∧ ln Le (x + 182) = 128 ∧ fF Le x 14 = x + 182)) → LX L0 Le (x + 180) 12 x → am_X G mX0_init (d + 440) 212 [aR x, aU] [] Le h Q) : am_X G mX0_init (d + 440) 188 [aR x, aU] [] L0 h Q := by
  refine x_aload_0 dX0_init_188 ?_
  refine x_iconst dX0_init_189 ?_
  refine x_newZ dX0_init_190 q647 (by omega) (fun z190 => ?_)
  refine x_putCR dX0_init_192 fl583_0 rfl trivial rfl rfl (by first | (exact MkL.k0 (by assumption)) | (first | assumption | (simp only [kd_pf, kd_al, nx_pf, nx_al, true_and, and_true]; (repeat (first | rw [if_neg (by omega)] | rw [if_pos (by omega)] | rw [if_pos trivial])); first | done | assumption | rfl))) (by omega) ?_
  refine y_arr (x + 180) (x + 181) U (U + 3) n0 u0 k0 (by omega) (by omega) (by omega) (fun L1 n1 u1 k1 f1 r1 => ?_)
  refine x_aload_0 dX0_init_195 ?_
  refine x_bipush dX0_init_196 rfl ?_
  refine x_newI dX0_init_198 q406 (by omega) (fun z198 => ?_)
  refine x_putCR dX0_init_200 fl584_0 rfl trivial rfl rfl (by first | (exact MkL.k0 (by assumption)) | (first | assumption | (simp only [kd_pf, kd_al, nx_pf, nx_al, true_and, and_true]; (repeat (first | rw [if_neg (by omega)] | rw [if_pos (by omega)] | rw [if_pos trivial])); first | done | assumption | rfl))) (by omega) ?_
  refine y_arr (x + 181) (x + 182) (U + 3) (U + 10) n1 u1 k1 (by omega) (by omega) (by omega) (fun L2 n2 u2 k2 f2 r2 => ?_)
  refine x_aload_0 dX0_init_203 ?_
  refine x_sipush dX0_init_204 rfl ?_
  refine x_newI dX0_init_207 q406 (by omega) (fun z207 => ?_)
  refine x_putCR dX0_init_209 fl585_0 rfl trivial rfl rfl (by first | (exact MkL.k0 (by assumption)) | (first | assumption | (simp only [kd_pf, kd_al, nx_pf, nx_al, true_and, and_true]; (repeat (first | rw [if_neg (by omega)] | rw [if_pos (by omega)] | rw [if_pos trivial])); first | done | assumption | rfl))) (by omega) ?_
  refine y_arr (x + 182) (x + 183) (U + 10) (U + 138) n2 u2 k2 (by omega) (by omega) (by omega) (fun L3 n3 u3 k3 f3 r3 => ?_)
  have s1 : LX L1 L3 (x + 181) 13 x := r2.tr r3 (by omega) (by omega)
  exact k L3 n3 u3 k3 ⟨⟨(s1.1 _ (by omega) (by omega)).1.trans f1.1, (s1.1 _ (by omega) (by omega)).2.1.trans f1.2.1, (s1.2.2.2 12 (by omega)).trans f1.2.2⟩, ⟨(r3.1 _ (by omega) (by omega)).1.trans f2.1, (r3.1 _ (by omega) (by omega)).2.1.trans f2.2.1, (r3.2.2.2 13 (by omega)).trans f2.2.2⟩, f3⟩ (r1.tr s1 (by omega) (by omega))
set_option maxHeartbeats 1000000 in
theorem X0i_d3 {L0 : am_L} {U : Int} (h200 : 200 ≤ x) (n0 : nx L0 = x + 271) (u0 : us L0 = U) (k0 : kd L0 x = 0) (k : ∀ Le, nx Le = x + 275 → us Le = U + 43 → kd Le x = 0 → ((kd Le (x + 271) = 100 ∧ ln Le (x + 271) = 12 ∧ fF Le x 21 = x + 271) ∧ (kd Le (x + 272) = 100 ∧ ln Le (x + 272) = 12 ∧ fF Le x 22 = x + 272) ∧ (kd Le (x + 273) = 100 ∧ ln Le (x + 273) = 7 ∧ fF Le x 23 = x + 273) ∧ (kd Le (x + 274) = 103 ∧ ln Le (x + 274) = 12 ∧ fF Le x 24 = x + 274)) → LX L0 Le (x + 271) 21 x → am_X G mX0_init (d + 440) 280 [aR x, aI 0] [] Le h Q) : am_X G mX0_init (d + 440) 246 [aR x, aU] [] L0 h Q := by
  refine x_aload_0 dX0_init_246 ?_
  refine x_bipush dX0_init_247 rfl ?_
  refine x_newI dX0_init_249 q406 (by omega) (fun z249 => ?_)
  refine x_putCR dX0_init_251 fl592_0 rfl trivial rfl rfl (by first | (exact MkL.k0 (by assumption)) | (first | assumption | (simp only [kd_pf, kd_al, nx_pf, nx_al, true_and, and_true]; (repeat (first | rw [if_neg (by omega)] | rw [if_pos (by omega)] | rw [if_pos trivial])); first | done | assumption | rfl))) (by omega) ?_
  refine y_arr (x + 271) (x + 272) U (U + 12) n0 u0 k0 (by omega) (by omega) (by omega) (fun L1 n1 u1 k1 f1 r1 => ?_)
  refine x_aload_0 dX0_init_254 ?_
  refine x_bipush dX0_init_255 rfl ?_
  refine x_newI dX0_init_257 q406 (by omega) (fun z257 => ?_)
  refine x_putCR dX0_init_259 fl593_0 rfl trivial rfl rfl (by first | (exact MkL.k0 (by assumption)) | (first | assumption | (simp only [kd_pf, kd_al, nx_pf, nx_al, true_and, and_true]; (repeat (first | rw [if_neg (by omega)] | rw [if_pos (by omega)] | rw [if_pos trivial])); first | done | assumption | rfl))) (by omega) ?_
  refine y_arr (x + 272) (x + 273) (U + 12) (U + 24) n1 u1 k1 (by omega) (by omega) (by omega) (fun L2 n2 u2 k2 f2 r2 => ?_)
  refine x_aload_0 dX0_init_262 ?_
  refine x_bipush dX0_init_263 rfl ?_
  refine x_newI dX0_init_265 q406 (by omega) (fun z265 => ?_)
  refine x_putCR dX0_init_267 fl594_0 rfl trivial rfl rfl (by first | (exact MkL.k0 (by assumption)) | (first | assumption | (simp only [kd_pf, kd_al, nx_pf, nx_al, true_and, and_true]; (repeat (first | rw [if_neg (by omega)] | rw [if_pos (by omega)] | rw [if_pos trivial])); first | done | assumption | rfl))) (by omega) ?_
  refine y_arr (x + 273) (x + 274) (U + 24) (U + 31) n2 u2 k2 (by omega) (by omega) (by omega) (fun L3 n3 u3 k3 f3 r3 => ?_)
  refine x_aload_0 dX0_init_270 ?_
  refine x_bipush dX0_init_271 rfl ?_
  refine x_newZ dX0_init_273 q647 (by omega) (fun z273 => ?_)
  refine x_putCR dX0_init_275 fl595_0 rfl trivial rfl rfl (by first | (exact MkL.k0 (by assumption)) | (first | assumption | (simp only [kd_pf, kd_al, nx_pf, nx_al, true_and, and_true]; (repeat (first | rw [if_neg (by omega)] | rw [if_pos (by omega)] | rw [if_pos trivial])); first | done | assumption | rfl))) (by omega) ?_
  refine y_arr (x + 274) (x + 275) (U + 31) (U + 43) n3 u3 k3 (by omega) (by omega) (by omega) (fun L4 n4 u4 k4 f4 r4 => ?_)
  have s2 : LX L2 L4 (x + 273) 23 x := r3.tr r4 (by omega) (by omega)
  have s1 : LX L1 L4 (x + 272) 22 x := r2.tr s2 (by omega) (by omega)
  refine x_iconst dX0_init_278 ?_
  refine x_istore_1 dX0_init_279 rfl ?_
  exact k L4 n4 u4 k4 ⟨⟨(s1.1 _ (by omega) (by omega)).1.trans f1.1, (s1.1 _ (by omega) (by omega)).2.1.trans f1.2.1, (s1.2.2.2 21 (by omega)).trans f1.2.2⟩, ⟨(s2.1 _ (by omega) (by omega)).1.trans f2.1, (s2.1 _ (by omega) (by omega)).2.1.trans f2.2.1, (s2.2.2.2 22 (by omega)).trans f2.2.2⟩, ⟨(r4.1 _ (by omega) (by omega)).1.trans f3.1, (r4.1 _ (by omega) (by omega)).2.1.trans f3.2.1, (r4.2.2.2 23 (by omega)).trans f3.2.2⟩, f4⟩ (r1.tr s1 (by omega) (by omega))
end XINIT8
