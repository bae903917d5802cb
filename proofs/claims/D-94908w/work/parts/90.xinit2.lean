/-! THREADTOWN: constructors of lists, texts, parsers, dusks -/
set_option maxRecDepth 100000
section XINIT2
variable {G : am_G} {L : am_L} {h : am_H} {c : Int} {d : Nat} {Q : am_O → am_L → am_H → Prop}
theorem C_J3_init (hk : kd L c ≠ 99) (k : Q (.inl []) L h) : am_C G mJ3_init (d + 1) [aR c] L h Q := by
  refine x_start okJ3_init rfl rfl rfl rfl ?_
  refine x_aload_0 dJ3_init_0 ?_
  refine x_objInit dJ3_init_1 q335 q158 q159 (by first | omega | (simp only [kd_pf, kd_al, kd_m2, nx_pf, nx_al, nx_m2, hnx, true_and, and_true]; (repeat (first | rw [if_neg (by omega)] | rw [if_pos (by omega)] | rw [if_pos trivial])); omega)) rfl ?_
  refine x_ret dJ3_init_4 rfl ?_
  exact k
theorem C_J4_init (hk : kd L c = 20) (h200 : 200 ≤ c) (k : Q (.inl []) (am_pf L c 0 0) h) : am_C G mJ4_init (d + 2) [aR c] L h Q := by
  refine x_start okJ4_init rfl rfl rfl rfl ?_
  refine x_aload_0 dJ4_init_0 ?_
  refine x_callI0 dJ4_init_1 rfl okJ3_init rfl rfl q332 q333 (by first | omega | (simp only [kd_pf, kd_al, kd_m2, nx_pf, nx_al, nx_m2, hnx, true_and, and_true]; (repeat (first | rw [if_neg (by omega)] | rw [if_pos (by omega)] | rw [if_pos trivial])); omega)) rfl (C_J3_init (by omega) (x_k0 ?_))
  refine x_aload_0 dJ4_init_4 ?_
  refine x_iconst dJ4_init_5 ?_
  refine x_putFI dJ4_init_6 fl340_20 (by first | assumption | (simp only [kd_pf, kd_al, kd_m2, nx_pf, nx_al, nx_m2, hnx, true_and, and_true]; (repeat (first | rw [if_neg (by omega)] | rw [if_pos (by omega)] | rw [if_pos trivial])); first | done | assumption | rfl)) (by omega) (by omega) ?_
  refine x_ret dJ4_init_9 rfl ?_
  exact k
theorem C_J5_init (hk : kd L c = 20) (h200 : 200 ≤ c) (k : Q (.inl []) (am_pf (am_pf L c 0 0) c 1 1) h) : am_C G mJ5_init (d + 3) [aR c] L h Q := by
  refine x_start okJ5_init rfl rfl rfl rfl ?_
  refine x_aload_0 dJ5_init_0 ?_
  refine x_callI0 dJ5_init_1 rfl okJ4_init rfl rfl q329 q330 (by first | omega | (simp only [kd_pf, kd_al, kd_m2, nx_pf, nx_al, nx_m2, hnx, true_and, and_true]; (repeat (first | rw [if_neg (by omega)] | rw [if_pos (by omega)] | rw [if_pos trivial])); omega)) rfl (C_J4_init hk h200 (x_k0 ?_))
  refine x_aload_0 dJ5_init_4 ?_
  refine x_gets dJ5_init_5 q336 am_z2 ?_
  refine x_putFR dJ5_init_8 fl338_20 rfl trivial (by first | (exact TxL.kl (by assumption)) | (first | assumption | (simp only [kd_pf, kd_al, kd_m2, nx_pf, nx_al, nx_m2, hnx, true_and, and_true]; (repeat (first | rw [if_neg (by omega)] | rw [if_pos (by omega)] | rw [if_pos trivial])); first | done | assumption | rfl))) (by omega) ?_
  refine x_ret dJ5_init_11 rfl ?_
  exact k
theorem C_X7_init (hk : kd L c ≠ 99) (k : Q (.inl []) L h) : am_C G mX7_init (d + 1) [aR c] L h Q := by
  refine x_start okX7_init rfl rfl rfl rfl ?_
  refine x_aload_0 dX7_init_0 ?_
  refine x_objInit dX7_init_1 q488 q158 q159 (by first | omega | (simp only [kd_pf, kd_al, kd_m2, nx_pf, nx_al, nx_m2, hnx, true_and, and_true]; (repeat (first | rw [if_neg (by omega)] | rw [if_pos (by omega)] | rw [if_pos trivial])); omega)) rfl ?_
  refine x_ret dX7_init_4 rfl ?_
  exact k
theorem C_X8_init (hk : kd L c ≠ 99) (k : Q (.inl []) L h) : am_C G mX8_init (d + 2) [aR c] L h Q := by
  refine x_start okX8_init rfl rfl rfl rfl ?_
  refine x_aload_0 dX8_init_0 ?_
  refine x_callIN0 dX8_init_1 rfl okX7_init rfl rfl q485 q486 (by first | omega | (simp only [kd_pf, kd_al, kd_m2, nx_pf, nx_al, nx_m2, hnx, true_and, and_true]; (repeat (first | rw [if_neg (by omega)] | rw [if_pos (by omega)] | rw [if_pos trivial])); omega)) rfl (C_X7_init hk (x_k0 ?_))
  refine x_ret dX8_init_4 rfl ?_
  exact k
theorem C_X9_init (hk : kd L c ≠ 99) (k : Q (.inl []) L h) : am_C G mX9_init (d + 2) [aR c] L h Q := by
  refine x_start okX9_init rfl rfl rfl rfl ?_
  refine x_aload_0 dX9_init_0 ?_
  refine x_callIN0 dX9_init_1 rfl okX7_init rfl rfl q495 q486 (by first | omega | (simp only [kd_pf, kd_al, kd_m2, nx_pf, nx_al, nx_m2, hnx, true_and, and_true]; (repeat (first | rw [if_neg (by omega)] | rw [if_pos (by omega)] | rw [if_pos trivial])); omega)) rfl (C_X7_init hk (x_k0 ?_))
  refine x_ret dX9_init_4 rfl ?_
  exact k
theorem C_X10_init (hk : kd L c ≠ 99) (k : Q (.inl []) L h) : am_C G mX10_init (d + 2) [aR c] L h Q := by
  refine x_start okX10_init rfl rfl rfl rfl ?_
  refine x_aload_0 dX10_init_0 ?_
  refine x_callIN0 dX10_init_1 rfl okX7_init rfl rfl q502 q486 (by first | omega | (simp only [kd_pf, kd_al, kd_m2, nx_pf, nx_al, nx_m2, hnx, true_and, and_true]; (repeat (first | rw [if_neg (by omega)] | rw [if_pos (by omega)] | rw [if_pos trivial])); omega)) rfl (C_X7_init hk (x_k0 ?_))
  refine x_ret dX10_init_4 rfl ?_
  exact k
theorem C_X11_init (hk : kd L c ≠ 99) (k : Q (.inl []) L h) : am_C G mX11_init (d + 2) [aR c] L h Q := by
  refine x_start okX11_init rfl rfl rfl rfl ?_
  refine x_aload_0 dX11_init_0 ?_
  refine x_callIN0 dX11_init_1 rfl okX7_init rfl rfl q509 q486 (by first | omega | (simp only [kd_pf, kd_al, kd_m2, nx_pf, nx_al, nx_m2, hnx, true_and, and_true]; (repeat (first | rw [if_neg (by omega)] | rw [if_pos (by omega)] | rw [if_pos trivial])); omega)) rfl (C_X7_init hk (x_k0 ?_))
  refine x_ret dX11_init_4 rfl ?_
  exact k
theorem C_X12_init (hk : kd L c ≠ 99) (k : Q (.inl []) L h) : am_C G mX12_init (d + 2) [aR c] L h Q := by
  refine x_start okX12_init rfl rfl rfl rfl ?_
  refine x_aload_0 dX12_init_0 ?_
  refine x_callIN0 dX12_init_1 rfl okX7_init rfl rfl q516 q486 (by first | omega | (simp only [kd_pf, kd_al, kd_m2, nx_pf, nx_al, nx_m2, hnx, true_and, and_true]; (repeat (first | rw [if_neg (by omega)] | rw [if_pos (by omega)] | rw [if_pos trivial])); omega)) rfl (C_X7_init hk (x_k0 ?_))
  refine x_ret dX12_init_4 rfl ?_
  exact k
theorem C_X3_init {a b : Int} (hk : kd L c = 3) (h200 : 200 ≤ c) (k : Q (.inl []) (am_pf (am_pf L c 0 a) c 1 b) h) : am_C G mX3_init (d + 1) [aR c, aR a, aR b] L h Q := by
  refine x_start okX3_init rfl rfl rfl rfl ?_
  refine x_aload_0 dX3_init_0 ?_
  refine x_objInit dX3_init_1 q295 q158 q159 (by first | omega | (simp only [kd_pf, kd_al, kd_m2, nx_pf, nx_al, nx_m2, hnx, true_and, and_true]; (repeat (first | rw [if_neg (by omega)] | rw [if_pos (by omega)] | rw [if_pos trivial])); omega)) rfl ?_
  refine x_aload_0 dX3_init_4 ?_
  refine x_aload_1 dX3_init_5 ?_
  refine x_putCR dX3_init_6 fl296_3 rfl trivial rfl rfl (by first | (exact MkL.k_parser (by assumption)) | (first | assumption | (simp only [kd_pf, kd_al, kd_m2, nx_pf, nx_al, nx_m2, hnx, true_and, and_true]; (repeat (first | rw [if_neg (by omega)] | rw [if_pos (by omega)] | rw [if_pos trivial])); first | done | assumption | rfl))) (by omega) ?_
  refine x_aload_0 dX3_init_9 ?_
  refine x_aload_2 dX3_init_10 ?_
  refine x_putCR dX3_init_11 fl297_3 rfl trivial rfl rfl (by first | (exact MkL.k_parser (by assumption)) | (first | assumption | (simp only [kd_pf, kd_al, kd_m2, nx_pf, nx_al, nx_m2, hnx, true_and, and_true]; (repeat (first | rw [if_neg (by omega)] | rw [if_pos (by omega)] | rw [if_pos trivial])); first | done | assumption | rfl))) (by omega) ?_
  refine x_ret dX3_init_14 rfl ?_
  exact k
/-- a Text that tells nothing yet, its cells one behind another -/
def TxN (L : am_L) (t : Int) : Prop :=
  kd L t = 4 ∧ fF L t 0 = t + 1 ∧ fF L t 1 = t + 2 ∧ fF L t 2 = t + 3 ∧ fF L t 3 = t + 4 ∧ fF L t 4 = t + 5 ∧ fF L t 5 = t + 6 ∧ fF L t 6 = 6 ∧ fF L t 7 = 6 ∧ fF L t 8 = 0 ∧ fF L t 9 = 0 ∧ fF L t 10 = 0 ∧ fF L t 11 = 0 ∧
  kd L (t + 1) = 20 ∧ fF L (t + 1) 0 = 0 ∧ fF L (t + 1) 1 = 1 ∧ fF L (t + 1) 2 = 0 ∧ kd L (t + 2) = 117 ∧ ln L (t + 2) = 6 ∧ kd L (t + 3) = 117 ∧ ln L (t + 3) = 6 ∧
  kd L (t + 4) = 117 ∧ ln L (t + 4) = 49 ∧ kd L (t + 5) = 117 ∧ ln L (t + 5) = 49 ∧ kd L (t + 6) = 117 ∧ ln L (t + 6) = 49
theorem C_X4_init (hk : kd L c = 4) (hnx : nx L = c + 1) (h200 : 200 ≤ c) (hz : ∀ j, fF L c j = 0) (k : ∀ L', TxN L' c → nx L' = c + 7 → us L' = us L + 162 → LB L L' c → Q (.inl []) L' h) : am_C G mX4_init (d + 4) [aR c] L h Q := by
  refine x_start okX4_init rfl rfl rfl rfl ?_
  refine am_wf fun wf => ?_
  have hz1 : ∀ j, fF L (c + 1) j = 0 := fun j => (wf.2.2.1 _ j (by omega)).2
  refine x_aload_0 dX4_init_0 ?_
  refine x_objInit dX4_init_1 q323 q158 q159 (by first | omega | (simp only [kd_pf, kd_al, kd_m2, nx_pf, nx_al, nx_m2, hnx, true_and, and_true]; (repeat (first | rw [if_neg (by omega)] | rw [if_pos (by omega)] | rw [if_pos trivial])); omega)) rfl ?_
  refine x_aload_0 dX4_init_4 ?_
  refine x_new dX4_init_5 am_k20 q324 q325 q124 rfl (fun z5 => ?_)
  refine x_dup dX4_init_8 rfl ?_
  refine x_callI0 dX4_init_9 rfl okJ5_init rfl rfl q326 q327 (by first | omega | (simp only [kd_pf, kd_al, kd_m2, nx_pf, nx_al, nx_m2, hnx, true_and, and_true]; (repeat (first | rw [if_neg (by omega)] | rw [if_pos (by omega)] | rw [if_pos trivial])); omega)) rfl (C_J5_init (by simp only [kd_pf, kd_al, hnx, true_and, and_true]; (repeat (first | rw [if_neg (by omega)] | rw [if_pos (by omega)] | rw [if_pos trivial]))) (by simp only [nx_pf, nx_al, hnx]; omega) (x_k0 ?_))
  refine x_putCR dX4_init_12 fl350_4 rfl trivial rfl rfl (by first | (exact TxL.k0 (by assumption)) | (first | assumption | (simp only [kd_pf, kd_al, kd_m2, nx_pf, nx_al, nx_m2, hnx, true_and, and_true]; (repeat (first | rw [if_neg (by omega)] | rw [if_pos (by omega)] | rw [if_pos trivial])); first | done | assumption | rfl))) (by omega) ?_
  refine x_aload_0 dX4_init_15 ?_
  refine x_bipush dX4_init_16 rfl ?_
  refine x_newK dX4_init_18 q406 (by omega) (fun z18 => ?_)
  refine x_putCR dX4_init_20 fl354_4 rfl trivial rfl rfl (by first | (exact TxL.k0 (by assumption)) | (first | assumption | (simp only [kd_pf, kd_al, kd_m2, nx_pf, nx_al, nx_m2, hnx, true_and, and_true]; (repeat (first | rw [if_neg (by omega)] | rw [if_pos (by omega)] | rw [if_pos trivial])); first | done | assumption | rfl))) (by omega) ?_
  refine x_aload_0 dX4_init_23 ?_
  refine x_bipush dX4_init_24 rfl ?_
  refine x_newK dX4_init_26 q406 (by omega) (fun z26 => ?_)
  refine x_putCR dX4_init_28 fl357_4 rfl trivial rfl rfl (by first | (exact TxL.k0 (by assumption)) | (first | assumption | (simp only [kd_pf, kd_al, kd_m2, nx_pf, nx_al, nx_m2, hnx, true_and, and_true]; (repeat (first | rw [if_neg (by omega)] | rw [if_pos (by omega)] | rw [if_pos trivial])); first | done | assumption | rfl))) (by omega) ?_
  refine x_aload_0 dX4_init_31 ?_
  refine x_bipush dX4_init_32 rfl ?_
  refine x_newK dX4_init_34 q406 (by omega) (fun z34 => ?_)
  refine x_putCR dX4_init_36 fl360_4 rfl trivial rfl rfl (by first | (exact TxL.k0 (by assumption)) | (first | assumption | (simp only [kd_pf, kd_al, kd_m2, nx_pf, nx_al, nx_m2, hnx, true_and, and_true]; (repeat (first | rw [if_neg (by omega)] | rw [if_pos (by omega)] | rw [if_pos trivial])); first | done | assumption | rfl))) (by omega) ?_
  refine x_aload_0 dX4_init_39 ?_
  refine x_bipush dX4_init_40 rfl ?_
  refine x_newK dX4_init_42 q406 (by omega) (fun z42 => ?_)
  refine x_putCR dX4_init_44 fl362_4 rfl trivial rfl rfl (by first | (exact TxL.k0 (by assumption)) | (first | assumption | (simp only [kd_pf, kd_al, kd_m2, nx_pf, nx_al, nx_m2, hnx, true_and, and_true]; (repeat (first | rw [if_neg (by omega)] | rw [if_pos (by omega)] | rw [if_pos trivial])); first | done | assumption | rfl))) (by omega) ?_
  refine x_aload_0 dX4_init_47 ?_
  refine x_bipush dX4_init_48 rfl ?_
  refine x_newK dX4_init_50 q406 (by omega) (fun z50 => ?_)
  refine x_putCR dX4_init_52 fl364_4 rfl trivial rfl rfl (by first | (exact TxL.k0 (by assumption)) | (first | assumption | (simp only [kd_pf, kd_al, kd_m2, nx_pf, nx_al, nx_m2, hnx, true_and, and_true]; (repeat (first | rw [if_neg (by omega)] | rw [if_pos (by omega)] | rw [if_pos trivial])); first | done | assumption | rfl))) (by omega) ?_
  refine x_aload_0 dX4_init_55 ?_
  refine x_bipush dX4_init_56 rfl ?_
  refine x_putFI dX4_init_58 fl366_4 (by first | (exact TxL.k0 (by assumption)) | (first | assumption | (simp only [kd_pf, kd_al, kd_m2, nx_pf, nx_al, nx_m2, hnx, true_and, and_true]; (repeat (first | rw [if_neg (by omega)] | rw [if_pos (by omega)] | rw [if_pos trivial])); first | done | assumption | rfl))) (by omega) (by omega) ?_
  refine x_aload_0 dX4_init_61 ?_
  refine x_bipush dX4_init_62 rfl ?_
  refine x_putFI dX4_init_64 fl369_4 (by first | (exact TxL.k0 (by assumption)) | (first | assumption | (simp only [kd_pf, kd_al, kd_m2, nx_pf, nx_al, nx_m2, hnx, true_and, and_true]; (repeat (first | rw [if_neg (by omega)] | rw [if_pos (by omega)] | rw [if_pos trivial])); first | done | assumption | rfl))) (by omega) (by omega) ?_
  refine x_ret dX4_init_67 rfl ?_
  refine k _ ?_ ?_ ?_ ?_
  · unfold TxN
    simp only [kd_pf, kd_al, ln_pf, ln_al, fF_pf, fF_al, nx_pf, nx_al, hnx]
    refine ⟨?_, ?_, ?_, ?_, ?_, ?_, ?_, ?_, ?_, ?_, ?_, ?_, ?_, ?_, ?_, ?_, ?_, ?_, ?_, ?_, ?_, ?_, ?_, ?_, ?_, ?_, ?_⟩
    all_goals (repeat (first | rw [if_neg (by omega)] | rw [if_pos (by omega)] | rw [if_pos trivial] | rw [if_pos (by exact ⟨trivial, by omega⟩)] | rw [if_pos (by exact ⟨trivial, trivial⟩)] | rw [if_pos (by exact ⟨by omega, trivial⟩)]))
    all_goals first | done | assumption | omega | exact hz _ | exact hz1 _
  · simp only [nx_pf, nx_al, hnx]; omega
  · simp only [us_pf, us_al]; omega
  · repeat (first | exact LB.rf L c | refine LB.pf ?_ (by simp only [nx_pf, nx_al, hnx]; omega) | refine LB.pf ?_ (by omega) | refine LB.al ?_ (by simp only [nx_pf, nx_al, hnx]; omega))
end XINIT2
