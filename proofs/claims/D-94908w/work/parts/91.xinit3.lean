/-! THREADTOWN: the constructor of its tokens -/
set_option maxRecDepth 100000
section XINIT3
variable {G : am_G} {L : am_L} {h : am_H} {c : Int} {d : Nat} {Q : am_O → am_L → am_H → Prop}
/-- Tokens as they are made -/
def TkN (L : am_L) (c : Int) : Prop :=
  kd L c = 2 ∧ fF L c 0 = c + 1 ∧ fF L c 1 = c + 2 ∧ fF L c 3 = c + 3 ∧ fF L c 4 = c + 4 ∧ fF L c 5 = c + 5 ∧ fF L c 6 = c + 6 ∧ kd L (c + 1) = 112 ∧ ln L (c + 1) = 17 ∧ kd L (c + 2) = 101 ∧ ln L (c + 2) = 2000 ∧ kd L (c + 3) = 101 ∧ ln L (c + 3) = 2001 ∧
  kd L (c + 4) = 102 ∧ ln L (c + 4) = 2001 ∧ kd L (c + 5) = 102 ∧ ln L (c + 5) = 2001 ∧ kd L (c + 6) = 102 ∧ ln L (c + 6) = 2001 ∧ ∀ w, 0 ≤ w → w < 17 → fF L (c + 1) w = 11 + w
set_option maxHeartbeats 1000000 in
theorem C_X2_init (hk : kd L c = 2) (hnx : nx L = c + 1) (h200 : 200 ≤ c) (hs : ∀ w : Int, 11 ≤ w → w < 28 → kd L w = 21) (k : ∀ L', TkN L' c → nx L' = c + 7 → us L' = us L + 10021 → LB L L' c → Q (.inl []) L' h) : am_C G mX2_init (d + 4) [aR c] L h Q := by
  refine x_start okX2_init rfl rfl rfl rfl ?_
  refine x_aload_0 dX2_init_0 ?_
  refine x_objInit dX2_init_1 q239 q158 q159 (by omega) rfl ?_
  refine x_aload_0 dX2_init_4 ?_
  refine x_bipush dX2_init_5 rfl ?_
  refine x_newA (k := 112) dX2_init_7 (by decide) (by decide) rfl q240 q241 (by first | omega | (simp only [nx_pf, nx_al, hnx]; omega)) (fun z7 => ?_)
  refine x_dup dX2_init_10 rfl ?_
  refine x_iconst dX2_init_11 ?_
  refine x_ldcS (a := 11) (tx := "town") dX2_init_12 (show ("ThreadTown$Tokens", 11, "town", 11) ∈ am_ks by simp [am_ks]) (by decide) ?_
  refine x_aast (k := 112) dX2_init_14 (by first | assumption | (simp only [kd_pf, kd_al, nx_pf, nx_al, hnx, true_and, and_true]; (repeat (first | rw [if_neg (by omega)] | rw [if_pos (by omega)] | rw [if_pos trivial])); first | done | assumption | rfl | exact hs _ (by omega) (by omega))) (by decide) (by decide) (by first | omega | (simp only [nx_pf, nx_al, hnx]; omega)) (by first | omega | (simp only [ln_pf, ln_al, nx_pf, nx_al, hnx, true_and, and_true]; (repeat (first | rw [if_neg (by omega)] | rw [if_pos (by omega)] | rw [if_pos trivial])); omega)) rfl (by first | assumption | (simp only [kd_pf, kd_al, nx_pf, nx_al, hnx, true_and, and_true]; (repeat (first | rw [if_neg (by omega)] | rw [if_pos (by omega)] | rw [if_pos trivial])); first | done | assumption | rfl | exact hs _ (by omega) (by omega))) am_k21 (Or.inr rfl) ?_
  refine x_dup dX2_init_15 rfl ?_
  refine x_iconst dX2_init_16 ?_
  refine x_ldcS (a := 12) (tx := "man") dX2_init_17 (show ("ThreadTown$Tokens", 13, "man", 12) ∈ am_ks by simp [am_ks]) (by decide) ?_
  refine x_aast (k := 112) dX2_init_19 (by first | assumption | (simp only [kd_pf, kd_al, nx_pf, nx_al, hnx, true_and, and_true]; (repeat (first | rw [if_neg (by omega)] | rw [if_pos (by omega)] | rw [if_pos trivial])); first | done | assumption | rfl | exact hs _ (by omega) (by omega))) (by decide) (by decide) (by first | omega | (simp only [nx_pf, nx_al, hnx]; omega)) (by first | omega | (simp only [ln_pf, ln_al, nx_pf, nx_al, hnx, true_and, and_true]; (repeat (first | rw [if_neg (by omega)] | rw [if_pos (by omega)] | rw [if_pos trivial])); omega)) rfl (by first | assumption | (simp only [kd_pf, kd_al, nx_pf, nx_al, hnx, true_and, and_true]; (repeat (first | rw [if_neg (by omega)] | rw [if_pos (by omega)] | rw [if_pos trivial])); first | done | assumption | rfl | exact hs _ (by omega) (by omega))) am_k21 (Or.inr rfl) ?_
  refine x_dup dX2_init_20 rfl ?_
  refine x_iconst dX2_init_21 ?_
  refine x_ldcS (a := 13) (tx := "goes") dX2_init_22 (show ("ThreadTown$Tokens", 15, "goes", 13) ∈ am_ks by simp [am_ks]) (by decide) ?_
  refine x_aast (k := 112) dX2_init_24 (by first | assumption | (simp only [kd_pf, kd_al, nx_pf, nx_al, hnx, true_and, and_true]; (repeat (first | rw [if_neg (by omega)] | rw [if_pos (by omega)] | rw [if_pos trivial])); first | done | assumption | rfl | exact hs _ (by omega) (by omega))) (by decide) (by decide) (by first | omega | (simp only [nx_pf, nx_al, hnx]; omega)) (by first | omega | (simp only [ln_pf, ln_al, nx_pf, nx_al, hnx, true_and, and_true]; (repeat (first | rw [if_neg (by omega)] | rw [if_pos (by omega)] | rw [if_pos trivial])); omega)) rfl (by first | assumption | (simp only [kd_pf, kd_al, nx_pf, nx_al, hnx, true_and, and_true]; (repeat (first | rw [if_neg (by omega)] | rw [if_pos (by omega)] | rw [if_pos trivial])); first | done | assumption | rfl | exact hs _ (by omega) (by omega))) am_k21 (Or.inr rfl) ?_
  refine x_dup dX2_init_25 rfl ?_
  refine x_iconst dX2_init_26 ?_
  refine x_ldcS (a := 14) (tx := "long") dX2_init_27 (show ("ThreadTown$Tokens", 17, "long", 14) ∈ am_ks by simp [am_ks]) (by decide) ?_
  refine x_aast (k := 112) dX2_init_29 (by first | assumption | (simp only [kd_pf, kd_al, nx_pf, nx_al, hnx, true_and, and_true]; (repeat (first | rw [if_neg (by omega)] | rw [if_pos (by omega)] | rw [if_pos trivial])); first | done | assumption | rfl | exact hs _ (by omega) (by omega))) (by decide) (by decide) (by first | omega | (simp only [nx_pf, nx_al, hnx]; omega)) (by first | omega | (simp only [ln_pf, ln_al, nx_pf, nx_al, hnx, true_and, and_true]; (repeat (first | rw [if_neg (by omega)] | rw [if_pos (by omega)] | rw [if_pos trivial])); omega)) rfl (by first | assumption | (simp only [kd_pf, kd_al, nx_pf, nx_al, hnx, true_and, and_true]; (repeat (first | rw [if_neg (by omega)] | rw [if_pos (by omega)] | rw [if_pos trivial])); first | done | assumption | rfl | exact hs _ (by omega) (by omega))) am_k21 (Or.inr rfl) ?_
  refine x_dup dX2_init_30 rfl ?_
  refine x_iconst dX2_init_31 ?_
  refine x_ldcS (a := 15) (tx := "errand") dX2_init_32 (show ("ThreadTown$Tokens", 19, "errand", 15) ∈ am_ks by simp [am_ks]) (by decide) ?_
  refine x_aast (k := 112) dX2_init_34 (by first | assumption | (simp only [kd_pf, kd_al, nx_pf, nx_al, hnx, true_and, and_true]; (repeat (first | rw [if_neg (by omega)] | rw [if_pos (by omega)] | rw [if_pos trivial])); first | done | assumption | rfl | exact hs _ (by omega) (by omega))) (by decide) (by decide) (by first | omega | (simp only [nx_pf, nx_al, hnx]; omega)) (by first | omega | (simp only [ln_pf, ln_al, nx_pf, nx_al, hnx, true_and, and_true]; (repeat (first | rw [if_neg (by omega)] | rw [if_pos (by omega)] | rw [if_pos trivial])); omega)) rfl (by first | assumption | (simp only [kd_pf, kd_al, nx_pf, nx_al, hnx, true_and, and_true]; (repeat (first | rw [if_neg (by omega)] | rw [if_pos (by omega)] | rw [if_pos trivial])); first | done | assumption | rfl | exact hs _ (by omega) (by omega))) am_k21 (Or.inr rfl) ?_
  refine x_dup dX2_init_35 rfl ?_
  refine x_iconst dX2_init_36 ?_
  refine x_ldcS (a := 16) (tx := "pillar") dX2_init_37 (show ("ThreadTown$Tokens", 21, "pillar", 16) ∈ am_ks by simp [am_ks]) (by decide) ?_
  refine x_aast (k := 112) dX2_init_39 (by first | assumption | (simp only [kd_pf, kd_al, nx_pf, nx_al, hnx, true_and, and_true]; (repeat (first | rw [if_neg (by omega)] | rw [if_pos (by omega)] | rw [if_pos trivial])); first | done | assumption | rfl | exact hs _ (by omega) (by omega))) (by decide) (by decide) (by first | omega | (simp only [nx_pf, nx_al, hnx]; omega)) (by first | omega | (simp only [ln_pf, ln_al, nx_pf, nx_al, hnx, true_and, and_true]; (repeat (first | rw [if_neg (by omega)] | rw [if_pos (by omega)] | rw [if_pos trivial])); omega)) rfl (by first | assumption | (simp only [kd_pf, kd_al, nx_pf, nx_al, hnx, true_and, and_true]; (repeat (first | rw [if_neg (by omega)] | rw [if_pos (by omega)] | rw [if_pos trivial])); first | done | assumption | rfl | exact hs _ (by omega) (by omega))) am_k21 (Or.inr rfl) ?_
  refine x_dup dX2_init_40 rfl ?_
  refine x_bipush dX2_init_41 rfl ?_
  refine x_ldcS (a := 17) (tx := "dye") dX2_init_43 (show ("ThreadTown$Tokens", 23, "dye", 17) ∈ am_ks by simp [am_ks]) (by decide) ?_
  refine x_aast (k := 112) dX2_init_45 (by first | assumption | (simp only [kd_pf, kd_al, nx_pf, nx_al, hnx, true_and, and_true]; (repeat (first | rw [if_neg (by omega)] | rw [if_pos (by omega)] | rw [if_pos trivial])); first | done | assumption | rfl | exact hs _ (by omega) (by omega))) (by decide) (by decide) (by first | omega | (simp only [nx_pf, nx_al, hnx]; omega)) (by first | omega | (simp only [ln_pf, ln_al, nx_pf, nx_al, hnx, true_and, and_true]; (repeat (first | rw [if_neg (by omega)] | rw [if_pos (by omega)] | rw [if_pos trivial])); omega)) rfl (by first | assumption | (simp only [kd_pf, kd_al, nx_pf, nx_al, hnx, true_and, and_true]; (repeat (first | rw [if_neg (by omega)] | rw [if_pos (by omega)] | rw [if_pos trivial])); first | done | assumption | rfl | exact hs _ (by omega) (by omega))) am_k21 (Or.inr rfl) ?_
  refine x_dup dX2_init_46 rfl ?_
  refine x_bipush dX2_init_47 rfl ?_
  refine x_ldcS (a := 18) (tx := "seed") dX2_init_49 (show ("ThreadTown$Tokens", 25, "seed", 18) ∈ am_ks by simp [am_ks]) (by decide) ?_
  refine x_aast (k := 112) dX2_init_51 (by first | assumption | (simp only [kd_pf, kd_al, nx_pf, nx_al, hnx, true_and, and_true]; (repeat (first | rw [if_neg (by omega)] | rw [if_pos (by omega)] | rw [if_pos trivial])); first | done | assumption | rfl | exact hs _ (by omega) (by omega))) (by decide) (by decide) (by first | omega | (simp only [nx_pf, nx_al, hnx]; omega)) (by first | omega | (simp only [ln_pf, ln_al, nx_pf, nx_al, hnx, true_and, and_true]; (repeat (first | rw [if_neg (by omega)] | rw [if_pos (by omega)] | rw [if_pos trivial])); omega)) rfl (by first | assumption | (simp only [kd_pf, kd_al, nx_pf, nx_al, hnx, true_and, and_true]; (repeat (first | rw [if_neg (by omega)] | rw [if_pos (by omega)] | rw [if_pos trivial])); first | done | assumption | rfl | exact hs _ (by omega) (by omega))) am_k21 (Or.inr rfl) ?_
  refine x_dup dX2_init_52 rfl ?_
  refine x_bipush dX2_init_53 rfl ?_
  refine x_ldcS (a := 19) (tx := "if") dX2_init_55 (show ("ThreadTown$Tokens", 27, "if", 19) ∈ am_ks by simp [am_ks]) (by decide) ?_
  refine x_aast (k := 112) dX2_init_57 (by first | assumption | (simp only [kd_pf, kd_al, nx_pf, nx_al, hnx, true_and, and_true]; (repeat (first | rw [if_neg (by omega)] | rw [if_pos (by omega)] | rw [if_pos trivial])); first | done | assumption | rfl | exact hs _ (by omega) (by omega))) (by decide) (by decide) (by first | omega | (simp only [nx_pf, nx_al, hnx]; omega)) (by first | omega | (simp only [ln_pf, ln_al, nx_pf, nx_al, hnx, true_and, and_true]; (repeat (first | rw [if_neg (by omega)] | rw [if_pos (by omega)] | rw [if_pos trivial])); omega)) rfl (by first | assumption | (simp only [kd_pf, kd_al, nx_pf, nx_al, hnx, true_and, and_true]; (repeat (first | rw [if_neg (by omega)] | rw [if_pos (by omega)] | rw [if_pos trivial])); first | done | assumption | rfl | exact hs _ (by omega) (by omega))) am_k21 (Or.inr rfl) ?_
  refine x_dup dX2_init_58 rfl ?_
  refine x_bipush dX2_init_59 rfl ?_
  refine x_ldcS (a := 20) (tx := "then") dX2_init_61 (show ("ThreadTown$Tokens", 29, "then", 20) ∈ am_ks by simp [am_ks]) (by decide) ?_
  refine x_aast (k := 112) dX2_init_63 (by first | assumption | (simp only [kd_pf, kd_al, nx_pf, nx_al, hnx, true_and, and_true]; (repeat (first | rw [if_neg (by omega)] | rw [if_pos (by omega)] | rw [if_pos trivial])); first | done | assumption | rfl | exact hs _ (by omega) (by omega))) (by decide) (by decide) (by first | omega | (simp only [nx_pf, nx_al, hnx]; omega)) (by first | omega | (simp only [ln_pf, ln_al, nx_pf, nx_al, hnx, true_and, and_true]; (repeat (first | rw [if_neg (by omega)] | rw [if_pos (by omega)] | rw [if_pos trivial])); omega)) rfl (by first | assumption | (simp only [kd_pf, kd_al, nx_pf, nx_al, hnx, true_and, and_true]; (repeat (first | rw [if_neg (by omega)] | rw [if_pos (by omega)] | rw [if_pos trivial])); first | done | assumption | rfl | exact hs _ (by omega) (by omega))) am_k21 (Or.inr rfl) ?_
  refine x_dup dX2_init_64 rfl ?_
  refine x_bipush dX2_init_65 rfl ?_
  refine x_ldcS (a := 21) (tx := "else") dX2_init_67 (show ("ThreadTown$Tokens", 31, "else", 21) ∈ am_ks by simp [am_ks]) (by decide) ?_
  refine x_aast (k := 112) dX2_init_69 (by first | assumption | (simp only [kd_pf, kd_al, nx_pf, nx_al, hnx, true_and, and_true]; (repeat (first | rw [if_neg (by omega)] | rw [if_pos (by omega)] | rw [if_pos trivial])); first | done | assumption | rfl | exact hs _ (by omega) (by omega))) (by decide) (by decide) (by first | omega | (simp only [nx_pf, nx_al, hnx]; omega)) (by first | omega | (simp only [ln_pf, ln_al, nx_pf, nx_al, hnx, true_and, and_true]; (repeat (first | rw [if_neg (by omega)] | rw [if_pos (by omega)] | rw [if_pos trivial])); omega)) rfl (by first | assumption | (simp only [kd_pf, kd_al, nx_pf, nx_al, hnx, true_and, and_true]; (repeat (first | rw [if_neg (by omega)] | rw [if_pos (by omega)] | rw [if_pos trivial])); first | done | assumption | rfl | exact hs _ (by omega) (by omega))) am_k21 (Or.inr rfl) ?_
  refine x_dup dX2_init_70 rfl ?_
  refine x_bipush dX2_init_71 rfl ?_
  refine x_ldcS (a := 22) (tx := "x") dX2_init_73 (show ("ThreadTown$Tokens", 33, "x", 22) ∈ am_ks by simp [am_ks]) (by decide) ?_
  refine x_aast (k := 112) dX2_init_75 (by first | assumption | (simp only [kd_pf, kd_al, nx_pf, nx_al, hnx, true_and, and_true]; (repeat (first | rw [if_neg (by omega)] | rw [if_pos (by omega)] | rw [if_pos trivial])); first | done | assumption | rfl | exact hs _ (by omega) (by omega))) (by decide) (by decide) (by first | omega | (simp only [nx_pf, nx_al, hnx]; omega)) (by first | omega | (simp only [ln_pf, ln_al, nx_pf, nx_al, hnx, true_and, and_true]; (repeat (first | rw [if_neg (by omega)] | rw [if_pos (by omega)] | rw [if_pos trivial])); omega)) rfl (by first | assumption | (simp only [kd_pf, kd_al, nx_pf, nx_al, hnx, true_and, and_true]; (repeat (first | rw [if_neg (by omega)] | rw [if_pos (by omega)] | rw [if_pos trivial])); first | done | assumption | rfl | exact hs _ (by omega) (by omega))) am_k21 (Or.inr rfl) ?_
  refine x_dup dX2_init_76 rfl ?_
  refine x_bipush dX2_init_77 rfl ?_
  refine x_ldcS (a := 23) (tx := "y") dX2_init_79 (show ("ThreadTown$Tokens", 35, "y", 23) ∈ am_ks by simp [am_ks]) (by decide) ?_
  refine x_aast (k := 112) dX2_init_81 (by first | assumption | (simp only [kd_pf, kd_al, nx_pf, nx_al, hnx, true_and, and_true]; (repeat (first | rw [if_neg (by omega)] | rw [if_pos (by omega)] | rw [if_pos trivial])); first | done | assumption | rfl | exact hs _ (by omega) (by omega))) (by decide) (by decide) (by first | omega | (simp only [nx_pf, nx_al, hnx]; omega)) (by first | omega | (simp only [ln_pf, ln_al, nx_pf, nx_al, hnx, true_and, and_true]; (repeat (first | rw [if_neg (by omega)] | rw [if_pos (by omega)] | rw [if_pos trivial])); omega)) rfl (by first | assumption | (simp only [kd_pf, kd_al, nx_pf, nx_al, hnx, true_and, and_true]; (repeat (first | rw [if_neg (by omega)] | rw [if_pos (by omega)] | rw [if_pos trivial])); first | done | assumption | rfl | exact hs _ (by omega) (by omega))) am_k21 (Or.inr rfl) ?_
  refine x_dup dX2_init_82 rfl ?_
  refine x_bipush dX2_init_83 rfl ?_
  refine x_ldcS (a := 24) (tx := "minute") dX2_init_85 (show ("ThreadTown$Tokens", 37, "minute", 24) ∈ am_ks by simp [am_ks]) (by decide) ?_
  refine x_aast (k := 112) dX2_init_87 (by first | assumption | (simp only [kd_pf, kd_al, nx_pf, nx_al, hnx, true_and, and_true]; (repeat (first | rw [if_neg (by omega)] | rw [if_pos (by omega)] | rw [if_pos trivial])); first | done | assumption | rfl | exact hs _ (by omega) (by omega))) (by decide) (by decide) (by first | omega | (simp only [nx_pf, nx_al, hnx]; omega)) (by first | omega | (simp only [ln_pf, ln_al, nx_pf, nx_al, hnx, true_and, and_true]; (repeat (first | rw [if_neg (by omega)] | rw [if_pos (by omega)] | rw [if_pos trivial])); omega)) rfl (by first | assumption | (simp only [kd_pf, kd_al, nx_pf, nx_al, hnx, true_and, and_true]; (repeat (first | rw [if_neg (by omega)] | rw [if_pos (by omega)] | rw [if_pos trivial])); first | done | assumption | rfl | exact hs _ (by omega) (by omega))) am_k21 (Or.inr rfl) ?_
  refine x_dup dX2_init_88 rfl ?_
  refine x_bipush dX2_init_89 rfl ?_
  refine x_ldcS (a := 25) (tx := "left") dX2_init_91 (show ("ThreadTown$Tokens", 39, "left", 25) ∈ am_ks by simp [am_ks]) (by decide) ?_
  refine x_aast (k := 112) dX2_init_93 (by first | assumption | (simp only [kd_pf, kd_al, nx_pf, nx_al, hnx, true_and, and_true]; (repeat (first | rw [if_neg (by omega)] | rw [if_pos (by omega)] | rw [if_pos trivial])); first | done | assumption | rfl | exact hs _ (by omega) (by omega))) (by decide) (by decide) (by first | omega | (simp only [nx_pf, nx_al, hnx]; omega)) (by first | omega | (simp only [ln_pf, ln_al, nx_pf, nx_al, hnx, true_and, and_true]; (repeat (first | rw [if_neg (by omega)] | rw [if_pos (by omega)] | rw [if_pos trivial])); omega)) rfl (by first | assumption | (simp only [kd_pf, kd_al, nx_pf, nx_al, hnx, true_and, and_true]; (repeat (first | rw [if_neg (by omega)] | rw [if_pos (by omega)] | rw [if_pos trivial])); first | done | assumption | rfl | exact hs _ (by omega) (by omega))) am_k21 (Or.inr rfl) ?_
  refine x_dup dX2_init_94 rfl ?_
  refine x_bipush dX2_init_95 rfl ?_
  refine x_ldcS (a := 26) (tx := "lot") dX2_init_97 (show ("ThreadTown$Tokens", 41, "lot", 26) ∈ am_ks by simp [am_ks]) (by decide) ?_
  refine x_aast (k := 112) dX2_init_99 (by first | assumption | (simp only [kd_pf, kd_al, nx_pf, nx_al, hnx, true_and, and_true]; (repeat (first | rw [if_neg (by omega)] | rw [if_pos (by omega)] | rw [if_pos trivial])); first | done | assumption | rfl | exact hs _ (by omega) (by omega))) (by decide) (by decide) (by first | omega | (simp only [nx_pf, nx_al, hnx]; omega)) (by first | omega | (simp only [ln_pf, ln_al, nx_pf, nx_al, hnx, true_and, and_true]; (repeat (first | rw [if_neg (by omega)] | rw [if_pos (by omega)] | rw [if_pos trivial])); omega)) rfl (by first | assumption | (simp only [kd_pf, kd_al, nx_pf, nx_al, hnx, true_and, and_true]; (repeat (first | rw [if_neg (by omega)] | rw [if_pos (by omega)] | rw [if_pos trivial])); first | done | assumption | rfl | exact hs _ (by omega) (by omega))) am_k21 (Or.inr rfl) ?_
  refine x_dup dX2_init_100 rfl ?_
  refine x_bipush dX2_init_101 rfl ?_
  refine x_ldcS (a := 27) (tx := "rank") dX2_init_103 (show ("ThreadTown$Tokens", 43, "rank", 27) ∈ am_ks by simp [am_ks]) (by decide) ?_
  refine x_aast (k := 112) dX2_init_105 (by first | assumption | (simp only [kd_pf, kd_al, nx_pf, nx_al, hnx, true_and, and_true]; (repeat (first | rw [if_neg (by omega)] | rw [if_pos (by omega)] | rw [if_pos trivial])); first | done | assumption | rfl | exact hs _ (by omega) (by omega))) (by decide) (by decide) (by first | omega | (simp only [nx_pf, nx_al, hnx]; omega)) (by first | omega | (simp only [ln_pf, ln_al, nx_pf, nx_al, hnx, true_and, and_true]; (repeat (first | rw [if_neg (by omega)] | rw [if_pos (by omega)] | rw [if_pos trivial])); omega)) rfl (by first | assumption | (simp only [kd_pf, kd_al, nx_pf, nx_al, hnx, true_and, and_true]; (repeat (first | rw [if_neg (by omega)] | rw [if_pos (by omega)] | rw [if_pos trivial])); first | done | assumption | rfl | exact hs _ (by omega) (by omega))) am_k21 (Or.inr rfl) ?_
  refine x_putCR dX2_init_106 fl259_2 rfl trivial rfl rfl (by first | (exact MkL.k_tokens (by assumption)) | (first | assumption | (simp only [kd_pf, kd_al, nx_pf, nx_al, hnx, true_and, and_true]; (repeat (first | rw [if_neg (by omega)] | rw [if_pos (by omega)] | rw [if_pos trivial])); first | done | assumption | rfl | exact hs _ (by omega) (by omega)))) (by first | omega | (simp only [nx_pf, nx_al, hnx]; omega)) ?_
  refine x_aload_0 dX2_init_109 ?_
  refine x_sipush dX2_init_110 rfl ?_
  refine x_newB dX2_init_113 q233 (by first | omega | (simp only [nx_pf, nx_al, hnx]; omega)) (fun z113 => ?_)
  refine x_putCR dX2_init_115 fl260_2 rfl trivial rfl rfl (by first | (exact MkL.k_tokens (by assumption)) | (first | assumption | (simp only [kd_pf, kd_al, nx_pf, nx_al, hnx, true_and, and_true]; (repeat (first | rw [if_neg (by omega)] | rw [if_pos (by omega)] | rw [if_pos trivial])); first | done | assumption | rfl | exact hs _ (by omega) (by omega)))) (by first | omega | (simp only [nx_pf, nx_al, hnx]; omega)) ?_
  refine x_aload_0 dX2_init_118 ?_
  refine x_sipush dX2_init_119 rfl ?_
  refine x_newB dX2_init_122 q233 (by first | omega | (simp only [nx_pf, nx_al, hnx]; omega)) (fun z122 => ?_)
  refine x_putCR dX2_init_124 fl264_2 rfl trivial rfl rfl (by first | (exact MkL.k_tokens (by assumption)) | (first | assumption | (simp only [kd_pf, kd_al, nx_pf, nx_al, hnx, true_and, and_true]; (repeat (first | rw [if_neg (by omega)] | rw [if_pos (by omega)] | rw [if_pos trivial])); first | done | assumption | rfl | exact hs _ (by omega) (by omega)))) (by first | omega | (simp only [nx_pf, nx_al, hnx]; omega)) ?_
  refine x_aload_0 dX2_init_127 ?_
  refine x_sipush dX2_init_128 rfl ?_
  refine x_newS dX2_init_131 q289 (by first | omega | (simp only [nx_pf, nx_al, hnx]; omega)) (fun z131 => ?_)
  refine x_putCR dX2_init_133 fl266_2 rfl trivial rfl rfl (by first | (exact MkL.k_tokens (by assumption)) | (first | assumption | (simp only [kd_pf, kd_al, nx_pf, nx_al, hnx, true_and, and_true]; (repeat (first | rw [if_neg (by omega)] | rw [if_pos (by omega)] | rw [if_pos trivial])); first | done | assumption | rfl | exact hs _ (by omega) (by omega)))) (by first | omega | (simp only [nx_pf, nx_al, hnx]; omega)) ?_
  refine x_aload_0 dX2_init_136 ?_
  refine x_sipush dX2_init_137 rfl ?_
  refine x_newS dX2_init_140 q289 (by first | omega | (simp only [nx_pf, nx_al, hnx]; omega)) (fun z140 => ?_)
  refine x_putCR dX2_init_142 fl268_2 rfl trivial rfl rfl (by first | (exact MkL.k_tokens (by assumption)) | (first | assumption | (simp only [kd_pf, kd_al, nx_pf, nx_al, hnx, true_and, and_true]; (repeat (first | rw [if_neg (by omega)] | rw [if_pos (by omega)] | rw [if_pos trivial])); first | done | assumption | rfl | exact hs _ (by omega) (by omega)))) (by first | omega | (simp only [nx_pf, nx_al, hnx]; omega)) ?_
  refine x_aload_0 dX2_init_145 ?_
  refine x_sipush dX2_init_146 rfl ?_
  refine x_newS dX2_init_149 q289 (by first | omega | (simp only [nx_pf, nx_al, hnx]; omega)) (fun z149 => ?_)
  refine x_putCR dX2_init_151 fl269_2 rfl trivial rfl rfl (by first | (exact MkL.k_tokens (by assumption)) | (first | assumption | (simp only [kd_pf, kd_al, nx_pf, nx_al, hnx, true_and, and_true]; (repeat (first | rw [if_neg (by omega)] | rw [if_pos (by omega)] | rw [if_pos trivial])); first | done | assumption | rfl | exact hs _ (by omega) (by omega)))) (by first | omega | (simp only [nx_pf, nx_al, hnx]; omega)) ?_
  refine x_ret dX2_init_154 rfl ?_
  refine k _ ?_ ?_ ?_ ?_
  · unfold TkN
    simp only [kd_pf, kd_al, ln_pf, ln_al, fF_pf, fF_al, nx_pf, nx_al, hnx]
    refine ⟨?_, ?_, ?_, ?_, ?_, ?_, ?_, ?_, ?_, ?_, ?_, ?_, ?_, ?_, ?_, ?_, ?_, ?_, ?_, fun w z0 z1 => ?_⟩
    rotate_right 1
    · have hw : w = 0 ∨ w = 1 ∨ w = 2 ∨ w = 3 ∨ w = 4 ∨ w = 5 ∨ w = 6 ∨ w = 7 ∨ w = 8 ∨ w = 9 ∨ w = 10 ∨ w = 11 ∨ w = 12 ∨ w = 13 ∨ w = 14 ∨ w = 15 ∨ w = 16 := by omega
      rcases hw with rfl | rfl | rfl | rfl | rfl | rfl | rfl | rfl | rfl | rfl | rfl | rfl | rfl | rfl | rfl | rfl | rfl
      all_goals (repeat (first | rw [if_neg (by omega)] | rw [if_pos (by omega)] | rw [if_pos trivial] | rw [if_pos (by exact ⟨trivial, by omega⟩)] | rw [if_pos (by exact ⟨trivial, trivial⟩)] | rw [if_pos (by exact ⟨by omega, trivial⟩)]))
      all_goals first | done | rfl | omega
    all_goals (repeat (first | rw [if_neg (by omega)] | rw [if_pos (by omega)] | rw [if_pos trivial] | rw [if_pos (by exact ⟨trivial, by omega⟩)] | rw [if_pos (by exact ⟨trivial, trivial⟩)] | rw [if_pos (by exact ⟨by omega, trivial⟩)]))
    all_goals first | done | assumption | omega | rfl
  · simp only [nx_pf, nx_al, hnx]; omega
  · simp only [us_pf, us_al]; omega
  · repeat (first | exact LB.rf L c | refine LB.pf ?_ (by simp only [nx_pf, nx_al, hnx]; omega) | refine LB.pf ?_ (by omega) | refine LB.al ?_ (by simp only [nx_pf, nx_al, hnx]; omega))
end XINIT3
