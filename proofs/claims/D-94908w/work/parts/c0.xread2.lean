/-! THREADTOWN READS: the script's end, the whole -/
set_option maxRecDepth 100000
section XREAD2
variable {G : am_G} {L L' L0 : am_L} {h h' h2 h0 : am_H} {x t a c w D N : Int} {b : Int → Int} {d : Nat} {Q : am_O → am_L → am_H → Prop} {u u' : PS}
theorem read54 (hR : RdX L h x b D N) (hP : PsX h x t a u) (hT : TxP L h t u) (hI : PsI u) (hw : PsW N u)
    (kS : ∀ T, pEnd u = .inl T → TxL L t T → Q (.inl [aR t]) L h) (kF : ∀ n tk, pEnd u = .inr (n, tk) → (0 ≤ tk ∧ tk ≤ N) → Q (.inr (x + 1)) L (fltH h x n (sP b D tk))) : am_X G mX3_read (d + 31) 54 [aR (x + 9), aU] [] L h Q := by
  have hK := hR.mk
  obtain ⟨p1, p2, p3, p4, p5⟩ := hP
  have hcb := hI.cb
  have hI0 := hI.1
  have hD := hR.2.2.1
  have hND := hR.2.2.2.2.2.1
  have hTT := hT
  obtain ⟨r0, l, A, E, r1, -⟩ := hTT
  have r11 := r1
  obtain ⟨q1, ⟨q2, q3, q4, q5, q6, q7⟩, ⟨q8, q9, q10, q11, q12⟩, -, -, -, -, ⟨-, -, ⟨k4, n4⟩, ⟨k5, n5⟩, ⟨k6, n6⟩⟩, -, qc⟩ := r11
  obtain ⟨w1, w2, w3⟩ := hw
  have hlp : ∀ (n : Nat) (k : Int), 0 ≤ k → k + n = uC u → uW u = 0 → pCor u n k = pEnd u → am_X G mX3_read (d + 31) 76 [aR (x + 9), aI k] [] L h Q := by
    intro n
    induction n with
    | zero =>
      intro k h0 h1 h3 h2
      have hpe : pEnd u = .inl (uT u) := h2.symm
      refine x_iload_1 dX3_read_76 ?_
      refine x_aload_0 dX3_read_77 ?_
      refine x_getW dX3_read_78 fl298_3 rfl (by first | (exact MkL.k_parser (by assumption)) | (first | assumption | exact TxP.kt (by assumption) | (simp only [kd_pf, kd_al, nx_pf, nx_al, true_and, and_true]; (repeat (first | rw [if_neg (by omega)] | rw [if_pos (by omega)] | rw [if_pos trivial])); first | done | assumption | rfl))) (by exact p1) ?_
      refine x_getKI dX3_read_81 fl375_4 (by first | (exact TxL.k0 (by assumption)) | (first | assumption | exact TxP.kt (by assumption) | (simp only [kd_pf, kd_al, nx_pf, nx_al, true_and, and_true]; (repeat (first | rw [if_neg (by omega)] | rw [if_pos (by omega)] | rw [if_pos trivial])); first | done | assumption | rfl))) (by exact q11) (fun r81 => ?_)
      refine x_icmp_ge (tgt := 137) dX3_read_84 rfl (by omega) (by omega) (fun c84 => ?_) (fun c84 => ?_)
      · refine x_aload_0 dX3_read_137 ?_
        refine x_getW dX3_read_138 fl298_3 rfl (by first | (exact MkL.k_parser (by assumption)) | (first | assumption | exact TxP.kt (by assumption) | (simp only [kd_pf, kd_al, nx_pf, nx_al, true_and, and_true]; (repeat (first | rw [if_neg (by omega)] | rw [if_pos (by omega)] | rw [if_pos trivial])); first | done | assumption | rfl))) (by exact p1) ?_
        refine x_aret dX3_read_141 rfl ?_
        exact kS _ hpe (hT.tl hI)
      · exfalso; omega
    | succ n ih =>
      intro k h0 h1 h3 h2
      obtain ⟨c1, c2, c3⟩ := qc k h0 (by omega)
      have hwk := w3 k h0 (by omega)
      unfold pCor at h2
      have hin : am_X G mX3_read (d + 31) 131 [aR (x + 9), aI k] [] L h Q → True := fun _ => trivial
      refine x_iload_1 dX3_read_76 ?_
      refine x_aload_0 dX3_read_77 ?_
      refine x_getW dX3_read_78 fl298_3 rfl (by first | (exact MkL.k_parser (by assumption)) | (first | assumption | exact TxP.kt (by assumption) | (simp only [kd_pf, kd_al, nx_pf, nx_al, true_and, and_true]; (repeat (first | rw [if_neg (by omega)] | rw [if_pos (by omega)] | rw [if_pos trivial])); first | done | assumption | rfl))) (by exact p1) ?_
      refine x_getKI dX3_read_81 fl375_4 (by first | (exact TxL.k0 (by assumption)) | (first | assumption | exact TxP.kt (by assumption) | (simp only [kd_pf, kd_al, nx_pf, nx_al, true_and, and_true]; (repeat (first | rw [if_neg (by omega)] | rw [if_pos (by omega)] | rw [if_pos trivial])); first | done | assumption | rfl))) (by exact q11) (fun r81 => ?_)
      refine x_icmp_ge (tgt := 137) dX3_read_84 rfl (by omega) (by omega) (fun c84 => ?_) (fun c84 => ?_)
      · exfalso; omega
      · refine x_aload_0 dX3_read_87 ?_
        refine x_getW dX3_read_88 fl298_3 rfl (by first | (exact MkL.k_parser (by assumption)) | (first | assumption | exact TxP.kt (by assumption) | (simp only [kd_pf, kd_al, nx_pf, nx_al, true_and, and_true]; (repeat (first | rw [if_neg (by omega)] | rw [if_pos (by omega)] | rw [if_pos trivial])); first | done | assumption | rfl))) (by exact p1) ?_
        refine x_aload_0 dX3_read_91 ?_
        refine x_getW dX3_read_92 fl298_3 rfl (by first | (exact MkL.k_parser (by assumption)) | (first | assumption | exact TxP.kt (by assumption) | (simp only [kd_pf, kd_al, nx_pf, nx_al, true_and, and_true]; (repeat (first | rw [if_neg (by omega)] | rw [if_pos (by omega)] | rw [if_pos trivial])); first | done | assumption | rfl))) (by exact p1) ?_
        refine x_getR dX3_read_95 fl361_4 rfl (by first | (exact TxL.k0 (by assumption)) | (first | assumption | exact TxP.kt (by assumption) | (simp only [kd_pf, kd_al, nx_pf, nx_al, true_and, and_true]; (repeat (first | rw [if_neg (by omega)] | rw [if_pos (by omega)] | rw [if_pos trivial])); first | done | assumption | rfl))) (by exact q5) ?_
        refine x_iload_1 dX3_read_98 ?_
        refine x_sld_ dX3_read_99 (by exact k4) (by omega) (fun r99 => ?_)
        rw [c1]; rw [c1] at r99
        refine x_aload_0 dX3_read_100 ?_
        refine x_getW dX3_read_101 fl298_3 rfl (by first | (exact MkL.k_parser (by assumption)) | (first | assumption | exact TxP.kt (by assumption) | (simp only [kd_pf, kd_al, nx_pf, nx_al, true_and, and_true]; (repeat (first | rw [if_neg (by omega)] | rw [if_pos (by omega)] | rw [if_pos trivial])); first | done | assumption | rfl))) (by exact p1) ?_
        refine x_getR dX3_read_104 fl363_4 rfl (by first | (exact TxL.k0 (by assumption)) | (first | assumption | exact TxP.kt (by assumption) | (simp only [kd_pf, kd_al, nx_pf, nx_al, true_and, and_true]; (repeat (first | rw [if_neg (by omega)] | rw [if_pos (by omega)] | rw [if_pos trivial])); first | done | assumption | rfl))) (by exact q6) ?_
        refine x_iload_1 dX3_read_107 ?_
        refine x_sld_ dX3_read_108 (by exact k5) (by omega) (fun r108 => ?_)
        rw [c2]; rw [c2] at r108
        refine x_callV2 dX3_read_109 rfl okX4_isIn q1180 q1181 q1182 (by first | first | assumption | exact TxP.kt (by assumption) | (simp only [kd_pf, kd_al, nx_pf, nx_al, true_and, and_true]; (repeat (first | rw [if_neg (by omega)] | rw [if_pos (by omega)] | rw [if_pos trivial])); first | done | assumption | rfl) | (exact TxL.k0 (by assumption))) am_k4 rfl (C_X4_isInA r1 (by omega) (by omega) (fun z => (x_k1 ?_)) (fun z => (x_k1 ?_)))
        · rw [if_pos ⟨z.1, z.2.1, z.2.2.1, z.2.2.2⟩] at h2
          refine x_if_ne (tgt := 131) dX3_read_112 rfl (by omega) (fun c112 => ?_) (fun c112 => ?_)
          · refine x_iinc1 dX3_read_131 rfl ?_
            refine x_goto (tgt := 76) dX3_read_134 rfl ?_
            exact ih (k + 1) (by omega) (by omega) h3 h2
          · exact absurd c112 (by decide)
        · rw [if_neg (fun z9 => z ⟨z9.1, z9.2.1, z9.2.2.1, z9.2.2.2⟩)] at h2
          refine x_if_ne (tgt := 131) dX3_read_112 rfl (by omega) (fun c112 => ?_) (fun c112 => ?_)
          · exact absurd rfl c112
          · refine x_aload_0 dX3_read_115 ?_
            refine x_bipush dX3_read_116 rfl ?_
            refine x_aload_0 dX3_read_118 ?_
            refine x_getW dX3_read_119 fl298_3 rfl (by first | (exact MkL.k_parser (by assumption)) | (first | assumption | exact TxP.kt (by assumption) | (simp only [kd_pf, kd_al, nx_pf, nx_al, true_and, and_true]; (repeat (first | rw [if_neg (by omega)] | rw [if_pos (by omega)] | rw [if_pos trivial])); first | done | assumption | rfl))) (by exact p1) ?_
            refine x_getR dX3_read_122 fl365_4 rfl (by first | (exact TxL.k0 (by assumption)) | (first | assumption | exact TxP.kt (by assumption) | (simp only [kd_pf, kd_al, nx_pf, nx_al, true_and, and_true]; (repeat (first | rw [if_neg (by omega)] | rw [if_pos (by omega)] | rw [if_pos trivial])); first | done | assumption | rfl))) (by exact q7) ?_
            refine x_iload_1 dX3_read_125 ?_
            refine x_sld_ dX3_read_126 (by exact k6) (by omega) (fun r126 => ?_)
            rw [c3]
            refine x_callV2 dX3_read_127 rfl okX3_wrongAt q752 q754 qs11 (by first | first | assumption | exact TxP.kt (by assumption) | (simp only [kd_pf, kd_al, nx_pf, nx_al, true_and, and_true]; (repeat (first | rw [if_neg (by omega)] | rw [if_pos (by omega)] | rw [if_pos trivial])); first | done | assumption | rfl) | (exact MkL.k_parser (by assumption))) am_k3 rfl (C_X3_wrongAt (n := 6) hR hwk (by decide) (x_k1 ?_))
            refine x_athrow dX3_read_130 rfl (by exact hK.k_fault) ?_
            exact kF 6 _ h2.symm hwk
  refine x_aload_0 dX3_read_54 ?_
  refine x_getI_ dX3_read_55 fl301_3 (by first | (exact MkL.k_parser (by assumption)) | (first | assumption | exact TxP.kt (by assumption) | (simp only [kd_pf, kd_al, nx_pf, nx_al, true_and, and_true]; (repeat (first | rw [if_neg (by omega)] | rw [if_pos (by omega)] | rw [if_pos trivial])); first | done | assumption | rfl))) (fun r55 => ?_)
  rw [p4]
  refine x_if_eq (tgt := 74) dX3_read_58 rfl (by omega) (fun c58 => ?_) (fun c58 => ?_)
  · refine x_iconst dX3_read_74 ?_
    refine x_istore_1 dX3_read_75 rfl ?_
    exact hlp (uC u).toNat 0 (by omega) (by omega) (by omega) (by unfold pEnd; rw [if_neg (by omega)])
  · have hpe : pEnd u = .inr (uW u, uV u) := if_pos (by omega)
    have p6 := p5.resolve_left (by omega)
    have w4 := w2 (by omega)
    refine x_aload_0 dX3_read_61 ?_
    refine x_aload_0 dX3_read_62 ?_
    refine x_getI_ dX3_read_63 fl301_3 (by first | (exact MkL.k_parser (by assumption)) | (first | assumption | exact TxP.kt (by assumption) | (simp only [kd_pf, kd_al, nx_pf, nx_al, true_and, and_true]; (repeat (first | rw [if_neg (by omega)] | rw [if_pos (by omega)] | rw [if_pos trivial])); first | done | assumption | rfl))) (fun r63 => ?_)
    rw [p4]
    refine x_aload_0 dX3_read_66 ?_
    refine x_getI_ dX3_read_67 fl302_3 (by first | (exact MkL.k_parser (by assumption)) | (first | assumption | exact TxP.kt (by assumption) | (simp only [kd_pf, kd_al, nx_pf, nx_al, true_and, and_true]; (repeat (first | rw [if_neg (by omega)] | rw [if_pos (by omega)] | rw [if_pos trivial])); first | done | assumption | rfl))) (fun r67 => ?_)
    rw [p6]
    refine x_callV2 dX3_read_70 rfl okX3_wrongAt q752 q754 qs11 (by first | first | assumption | exact TxP.kt (by assumption) | (simp only [kd_pf, kd_al, nx_pf, nx_al, true_and, and_true]; (repeat (first | rw [if_neg (by omega)] | rw [if_pos (by omega)] | rw [if_pos trivial])); first | done | assumption | rfl) | (exact MkL.k_parser (by assumption))) am_k3 rfl (C_X3_wrongAt hR w4 w1 (x_k1 ?_))
    refine x_athrow dX3_read_73 rfl (by exact hK.k_fault) ?_
    exact kF _ _ hpe w4
end XREAD2
