/-! THREADTOWN: constructors of what it has (cloths, texts, tokens) -/
set_option maxRecDepth 100000
/-- below c the layout is as it was -/
def LB (L L' : am_L) (c : Int) : Prop := ∀ a, a < c → kd L' a = kd L a ∧ ln L' a = ln L a ∧ ∀ j, fF L' a j = fF L a j
theorem LB.rf (L : am_L) (c : Int) : LB L L c := fun _ _ => ⟨rfl, rfl, fun _ => rfl⟩
theorem LB.tr {L L1 L2 : am_L} {c c' : Int} (a : LB L L1 c) (b : LB L1 L2 c') (h : c ≤ c') : LB L L2 c := fun y z => ⟨(b y (by omega)).1.trans (a y z).1, (b y (by omega)).2.1.trans (a y z).2.1, fun j => ((b y (by omega)).2.2 j).trans ((a y z).2.2 j)⟩
theorem LB.al {L L1 : am_L} {c : Int} (a : LB L L1 c) {k : Nat} {n : Int} (h : c ≤ nx L1) : LB L (am_al L1 k n) c := fun y z => ⟨by rw [kd_al, if_neg (by omega)]; exact (a y z).1, by rw [ln_al, if_neg (by omega)]; exact (a y z).2.1, fun j => (a y z).2.2 j⟩
theorem LB.pf {L L1 : am_L} {c b j v : Int} (a : LB L L1 c) (h : c ≤ b) : LB L (am_pf L1 b j v) c := fun y z => ⟨(a y z).1, (a y z).2.1, fun i => by rw [fF_pf, if_neg (by omega)]; exact (a y z).2.2 i⟩
theorem LB.m2 {L L1 : am_L} {c n k : Int} (a : LB L L1 c) (h : c ≤ nx L1) : LB L (am_m2 L1 n k) c := fun y z => ⟨(m2_old n k y (by omega)).1.trans (a y z).1, (m2_old n k y (by omega)).2.1.trans (a y z).2.1, fun j => ((m2_old n k y (by omega)).2.2 j).trans ((a y z).2.2 j)⟩
section XINIT
variable {G : am_G} {L : am_L} {h : am_H} {c : Int} {d : Nat} {Q : am_O → am_L → am_H → Prop}
theorem C_X6_init (hk : kd L c = 6) (hnx : nx L = c + 1) (h200 : 200 ≤ c) (k : Q (.inl []) (am_pf (am_al L 100 6) c 0 (nx L)) h) : am_C G mX6_init (d + 1) [aR c] L h Q := by
  refine x_start okX6_init rfl rfl rfl rfl ?_
  refine x_aload_0 dX6_init_0 ?_
  refine x_objInit dX6_init_1 q420 q158 q159 (by first | omega | (simp only [kd_pf, kd_al, kd_m2, nx_pf, nx_al, nx_m2, hnx, true_and, and_true]; (repeat (first | rw [if_neg (by omega)] | rw [if_pos (by omega)] | rw [if_pos trivial])); omega)) rfl ?_
  refine x_aload_0 dX6_init_4 ?_
  refine x_bipush dX6_init_5 rfl ?_
  refine x_newI dX6_init_7 q406 (by omega) (fun z7 => ?_)
  refine x_putCR dX6_init_9 fl421_6 rfl trivial rfl rfl (by first | assumption | (simp only [kd_pf, kd_al, kd_m2, nx_pf, nx_al, nx_m2, hnx, true_and, and_true]; (repeat (first | rw [if_neg (by omega)] | rw [if_pos (by omega)] | rw [if_pos trivial])); first | done | assumption | rfl)) (by omega) ?_
  refine x_ret dX6_init_12 rfl ?_
  exact k
theorem C_X5_init (hk : kd L c = 5) (hnx : nx L = c + 1) (h200 : 200 ≤ c) (k : ∀ L', ClL L' c → nx L' = c + 31 → us L' = us L + 1317 → LB L L' c → Q (.inl []) L' h) : am_C G mX5_init (d + 2) [aR c] L h Q := by
  refine x_start okX5_init rfl rfl rfl rfl ?_
  refine x_aload_0 dX5_init_0 ?_
  refine x_objInit dX5_init_1 q412 q158 q159 (by first | omega | (simp only [kd_pf, kd_al, kd_m2, nx_pf, nx_al, nx_m2, hnx, true_and, and_true]; (repeat (first | rw [if_neg (by omega)] | rw [if_pos (by omega)] | rw [if_pos trivial])); omega)) rfl ?_
  refine x_aload_0 dX5_init_4 ?_
  refine x_bipush dX5_init_5 rfl ?_
  refine x_newI dX5_init_7 q406 (by omega) (fun z7 => ?_)
  refine x_putCR dX5_init_9 fl431_5 rfl trivial rfl rfl (by first | (exact ClL.k0 (by assumption)) | (first | assumption | (simp only [kd_pf, kd_al, kd_m2, nx_pf, nx_al, nx_m2, hnx, true_and, and_true]; (repeat (first | rw [if_neg (by omega)] | rw [if_pos (by omega)] | rw [if_pos trivial])); first | done | assumption | rfl))) (by omega) ?_
  refine x_aload_0 dX5_init_12 ?_
  refine x_bipush dX5_init_13 rfl ?_
  refine x_newI dX5_init_15 q406 (by omega) (fun z15 => ?_)
  refine x_putCR dX5_init_17 fl433_5 rfl trivial rfl rfl (by first | (exact ClL.k0 (by assumption)) | (first | assumption | (simp only [kd_pf, kd_al, kd_m2, nx_pf, nx_al, nx_m2, hnx, true_and, and_true]; (repeat (first | rw [if_neg (by omega)] | rw [if_pos (by omega)] | rw [if_pos trivial])); first | done | assumption | rfl))) (by omega) ?_
  refine x_aload_0 dX5_init_20 ?_
  refine x_bipush dX5_init_21 rfl ?_
  refine x_newI dX5_init_23 q406 (by omega) (fun z23 => ?_)
  refine x_putCR dX5_init_25 fl435_5 rfl trivial rfl rfl (by first | (exact ClL.k0 (by assumption)) | (first | assumption | (simp only [kd_pf, kd_al, kd_m2, nx_pf, nx_al, nx_m2, hnx, true_and, and_true]; (repeat (first | rw [if_neg (by omega)] | rw [if_pos (by omega)] | rw [if_pos trivial])); first | done | assumption | rfl))) (by omega) ?_
  refine x_aload_0 dX5_init_28 ?_
  refine x_bipush dX5_init_29 rfl ?_
  refine x_newI dX5_init_31 q406 (by omega) (fun z31 => ?_)
  refine x_putCR dX5_init_33 fl439_5 rfl trivial rfl rfl (by first | (exact ClL.k0 (by assumption)) | (first | assumption | (simp only [kd_pf, kd_al, kd_m2, nx_pf, nx_al, nx_m2, hnx, true_and, and_true]; (repeat (first | rw [if_neg (by omega)] | rw [if_pos (by omega)] | rw [if_pos trivial])); first | done | assumption | rfl))) (by omega) ?_
  refine x_aload_0 dX5_init_36 ?_
  refine x_bipush dX5_init_37 rfl ?_
  refine x_bipush dX5_init_39 rfl ?_
  refine x_multi2 dX5_init_41 q413 (by omega) (by omega) ?_
  refine x_putCR dX5_init_45 fl442_5 rfl trivial rfl rfl (by first | (exact ClL.k0 (by assumption)) | (first | assumption | (simp only [kd_pf, kd_al, kd_m2, nx_pf, nx_al, nx_m2, hnx, true_and, and_true]; (repeat (first | rw [if_neg (by omega)] | rw [if_pos (by omega)] | rw [if_pos trivial])); first | done | assumption | rfl))) (by omega) ?_
  refine x_aload_0 dX5_init_48 ?_
  refine x_bipush dX5_init_49 rfl ?_
  refine x_bipush dX5_init_51 rfl ?_
  refine x_multi2 dX5_init_53 q413 (by omega) (by omega) ?_
  refine x_putCR dX5_init_57 fl444_5 rfl trivial rfl rfl (by first | (exact ClL.k0 (by assumption)) | (first | assumption | (simp only [kd_pf, kd_al, kd_m2, nx_pf, nx_al, nx_m2, hnx, true_and, and_true]; (repeat (first | rw [if_neg (by omega)] | rw [if_pos (by omega)] | rw [if_pos trivial])); first | done | assumption | rfl))) (by omega) ?_
  refine x_aload_0 dX5_init_60 ?_
  refine x_bipush dX5_init_61 rfl ?_
  refine x_bipush dX5_init_63 rfl ?_
  refine x_multi2 dX5_init_65 q413 (by omega) (by omega) ?_
  refine x_putCR dX5_init_69 fl446_5 rfl trivial rfl rfl (by first | (exact ClL.k0 (by assumption)) | (first | assumption | (simp only [kd_pf, kd_al, kd_m2, nx_pf, nx_al, nx_m2, hnx, true_and, and_true]; (repeat (first | rw [if_neg (by omega)] | rw [if_pos (by omega)] | rw [if_pos trivial])); first | done | assumption | rfl))) (by omega) ?_
  refine x_aload_0 dX5_init_72 ?_
  refine x_new dX5_init_73 am_k6 q415 q416 q126 rfl (fun z73 => ?_)
  refine x_dup dX5_init_76 rfl ?_
  refine x_callIN0 dX5_init_77 rfl okX6_init rfl rfl q417 q418 (by first | omega | (simp only [kd_pf, kd_al, kd_m2, nx_pf, nx_al, nx_m2, hnx, true_and, and_true]; (repeat (first | rw [if_neg (by omega)] | rw [if_pos (by omega)] | rw [if_pos trivial])); omega)) rfl (C_X6_init (by simp only [kd_pf, kd_al, kd_m2, nx_pf, nx_al, nx_m2, hnx, true_and, and_true]; (repeat (first | rw [if_neg (by omega)] | rw [if_pos (by omega)] | rw [if_pos trivial]))) (by simp only [nx_pf, nx_al, nx_m2, hnx]) (by simp only [nx_pf, nx_al, nx_m2, hnx]; omega) (x_k0 ?_))
  refine x_putCR dX5_init_80 fl453_5 rfl trivial rfl rfl (by first | (exact ClL.k0 (by assumption)) | (first | assumption | (simp only [kd_pf, kd_al, kd_m2, nx_pf, nx_al, nx_m2, hnx, true_and, and_true]; (repeat (first | rw [if_neg (by omega)] | rw [if_pos (by omega)] | rw [if_pos trivial])); first | done | assumption | rfl))) (by omega) ?_
  refine x_ret dX5_init_83 rfl ?_
  refine k _ ?_ ?_ ?_ ?_
  · unfold ClL
    simp only [kd_pf, kd_al, kd_m2, ln_pf, ln_al, ln_m2, fF_pf, fF_al, fF_m2, nx_pf, nx_al, nx_m2, hnx]
    refine ⟨?_, ?_, ?_, ?_, ?_, ?_, ?_, ?_, ?_, ?_, ?_, ?_, ?_, ?_, ?_, ?_, ?_, ?_, ?_, ?_, ?_, ?_, ?_, fun m z0 z1 => ?_, fun m z0 z1 => ?_, fun m z0 z1 => ?_, ?_, ?_, ?_, ?_⟩
    all_goals (repeat (first | rw [if_neg (by omega)] | rw [if_pos (by omega)] | rw [if_pos trivial] | rw [if_pos (by exact ⟨trivial, by omega⟩)] | rw [if_pos (by exact ⟨trivial, trivial⟩)] | rw [if_pos (by exact ⟨by omega, trivial⟩)]))
    all_goals first | done | assumption | omega
  · simp only [nx_pf, nx_al, nx_m2, hnx]; omega
  · simp only [us_pf, us_al, us_m2]; omega
  · repeat (first | exact LB.rf L c | refine LB.pf ?_ (by simp only [nx_pf, nx_al, nx_m2, hnx]; omega) | refine LB.pf ?_ (by omega) | refine LB.al ?_ (by simp only [nx_pf, nx_al, nx_m2, hnx]; omega) | refine LB.m2 ?_ (by simp only [nx_pf, nx_al, nx_m2, hnx]; omega))
end XINIT
