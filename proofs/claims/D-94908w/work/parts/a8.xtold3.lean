/-! THREADTOWN READS: men and corners are made -/
set_option maxRecDepth 100000
section XTOLD3
variable {G : am_G} {M : am_M} {pc : Nat} {ls st : List AV} {L L' : am_L} {h h' : am_H} {x D N a t c l s n : Int} {b : Int → Int} {d : Nat} {Q : am_O → am_L → am_H → Prop} {u : PS}
theorem C_X14_init (hk : kd L c = 14) (h200 : 200 ≤ c) (hcn : c < nx L) (k : Q (.inl []) (am_pf (am_pf (am_al (am_pf (am_al L 117 6) c 1 (nx L)) 117 6) c 2 (nx L + 1)) c 0 s) h) : am_C G mX14_init (d + 2) [aR c, aR s] L h Q := by
  have e17 : kd (am_al (am_pf (am_al L 117 6) c 1 (nx L)) 117 6) c = 14 := by rw [kd_al, if_neg (by rw [nx_pf, nx_al]; omega), kd_pf, kd_al, if_neg (by omega)]; exact hk
  have e22 : kd (am_pf (am_al (am_pf (am_al L 117 6) c 1 (nx L)) 117 6) c 2 (nx L + 1)) c = 14 := e17
  refine x_start okX14_init rfl rfl rfl rfl ?_
  refine x_aload_0 dX14_init_0 ?_
  refine x_objInit dX14_init_1 q979 q158 q159 (by omega) rfl ?_
  refine x_aload_0 dX14_init_4 ?_
  refine x_bipush dX14_init_5 rfl ?_
  refine x_newK dX14_init_7 q406 (by first | omega | (simp only [nx_pf, nx_al]; omega)) (fun z7 => ?_)
  refine x_putCR dX14_init_9 fl982_14 rfl trivial rfl rfl (by first | (exact ManL.k0 (by assumption)) | (first | assumption | (simp only [kd_pf, kd_al, nx_pf, nx_al, true_and, and_true]; (repeat (first | rw [if_neg (by omega)] | rw [if_pos (by omega)] | rw [if_pos trivial])); first | done | assumption | rfl))) (by first | omega | (simp only [nx_pf, nx_al]; omega)) ?_
  refine x_aload_0 dX14_init_12 ?_
  refine x_bipush dX14_init_13 rfl ?_
  refine x_newK dX14_init_15 q406 (by first | omega | (simp only [nx_pf, nx_al]; omega)) (fun z15 => ?_)
  refine x_putCR dX14_init_17 fl985_14 rfl trivial rfl rfl (by exact e17) (by first | omega | (simp only [nx_pf, nx_al]; omega)) ?_
  show am_X G mX14_init (d + 2) 20 _ _ (am_pf _ c 2 (nx L + 1)) h Q
  refine x_aload_0 dX14_init_20 ?_
  refine x_aload_1 dX14_init_21 ?_
  refine x_putCR dX14_init_22 fl980_14 rfl trivial rfl rfl (by exact e22) (by first | omega | (simp only [nx_pf, nx_al]; omega)) ?_
  refine x_ret dX14_init_25 rfl ?_
  exact k
theorem C_X4_notes {i j tk : Int} (hA : TxA L t l u) (h200 : 200 ≤ t) (hc : 0 ≤ uC u ∧ uC u < 49) (hi : 0 ≤ i ∧ i ≤ 10000) (hj : 0 ≤ j ∧ j ≤ 10000) (htk : 0 ≤ tk ∧ tk ≤ 10000) (k : Q (.inl []) (am_pf (am_pf (am_pf (am_pf L (t + 4) (uC u) i) (t + 5) (uC u) j) (t + 6) (uC u) tk) t 9 (uC u + 1)) h) : am_C G mX4_notes (d + 1) [aR t, aI i, aI j, aI tk] L h Q := by
  obtain ⟨r1, ⟨f0, f1, f2, f3, f4, f5⟩, ⟨f6, f7, f8, f9, f10⟩, -, -, -, -, ⟨-, -, k4, k5, k6⟩, -⟩ := hA
  have nf : ∀ {L0 : am_L} {b0 j0 v0 i0 : Int}, b0 ≠ t → fF (am_pf L0 b0 j0 v0) t i0 = fF L0 t i0 := fun {L0 b0 j0 v0 i0} z => by rw [fF_pf, if_neg (fun q => z q.1.symm)]
  have k41 := k4.1
  have k42 := k4.2
  have k51 := k5.1
  have k52 := k5.2
  have k61 := k6.1
  have k62 := k6.2
  refine x_start okX4_notes rfl rfl rfl rfl ?_
  refine x_aload_0 dX4_notes_0 ?_
  refine x_getR dX4_notes_1 fl360_4 rfl (by first | (exact TxL.k0 (by assumption)) | (first | assumption | (simp only [kd_pf, kd_al, nx_pf, nx_al, true_and, and_true]; (repeat (first | rw [if_neg (by omega)] | rw [if_pos (by omega)] | rw [if_pos trivial])); first | done | assumption | rfl))) (by exact f3) ?_
  refine x_aload_0 dX4_notes_4 ?_
  refine x_getKI dX4_notes_5 fl374_4 (by first | (exact TxL.k0 (by assumption)) | (first | assumption | (simp only [kd_pf, kd_al, nx_pf, nx_al, true_and, and_true]; (repeat (first | rw [if_neg (by omega)] | rw [if_pos (by omega)] | rw [if_pos trivial])); first | done | assumption | rfl))) (by exact f9) (fun r5 => ?_)
  refine x_iload_1 dX4_notes_8 ?_
  refine x_iastK dX4_notes_9 (by first | assumption | (simp only [kd_pf, kd_al, nx_pf, nx_al, true_and, and_true]; (repeat (first | rw [if_neg (by omega)] | rw [if_pos (by omega)] | rw [if_pos trivial])); first | done | assumption | rfl)) (by first | omega | (simp only [nx_pf, nx_al]; omega)) (by omega) (by omega) ?_
  refine x_aload_0 dX4_notes_10 ?_
  refine x_getR dX4_notes_11 fl362_4 rfl (by first | (exact TxL.k0 (by assumption)) | (first | assumption | (simp only [kd_pf, kd_al, nx_pf, nx_al, true_and, and_true]; (repeat (first | rw [if_neg (by omega)] | rw [if_pos (by omega)] | rw [if_pos trivial])); first | done | assumption | rfl))) (by exact (nf (by omega)).trans f4) ?_
  refine x_aload_0 dX4_notes_14 ?_
  refine x_getKI dX4_notes_15 fl374_4 (by first | (exact TxL.k0 (by assumption)) | (first | assumption | (simp only [kd_pf, kd_al, nx_pf, nx_al, true_and, and_true]; (repeat (first | rw [if_neg (by omega)] | rw [if_pos (by omega)] | rw [if_pos trivial])); first | done | assumption | rfl))) (by exact (nf (by omega)).trans f9) (fun r15 => ?_)
  refine x_iload_2 dX4_notes_18 ?_
  refine x_iastK dX4_notes_19 (by first | assumption | (simp only [kd_pf, kd_al, nx_pf, nx_al, true_and, and_true]; (repeat (first | rw [if_neg (by omega)] | rw [if_pos (by omega)] | rw [if_pos trivial])); first | done | assumption | rfl)) (by first | omega | (simp only [nx_pf, nx_al]; omega)) (by rw [ln_pf]; omega) (by omega) ?_
  refine x_aload_0 dX4_notes_20 ?_
  refine x_getR dX4_notes_21 fl364_4 rfl (by first | (exact TxL.k0 (by assumption)) | (first | assumption | (simp only [kd_pf, kd_al, nx_pf, nx_al, true_and, and_true]; (repeat (first | rw [if_neg (by omega)] | rw [if_pos (by omega)] | rw [if_pos trivial])); first | done | assumption | rfl))) (by exact (nf (by omega)).trans ((nf (by omega)).trans f5)) ?_
  refine x_aload_0 dX4_notes_24 ?_
  refine x_getKI dX4_notes_25 fl374_4 (by first | (exact TxL.k0 (by assumption)) | (first | assumption | (simp only [kd_pf, kd_al, nx_pf, nx_al, true_and, and_true]; (repeat (first | rw [if_neg (by omega)] | rw [if_pos (by omega)] | rw [if_pos trivial])); first | done | assumption | rfl))) (by exact (nf (by omega)).trans ((nf (by omega)).trans f9)) (fun r25 => ?_)
  refine x_iload_3 dX4_notes_28 ?_
  refine x_iastK dX4_notes_29 (by first | assumption | (simp only [kd_pf, kd_al, nx_pf, nx_al, true_and, and_true]; (repeat (first | rw [if_neg (by omega)] | rw [if_pos (by omega)] | rw [if_pos trivial])); first | done | assumption | rfl)) (by first | omega | (simp only [nx_pf, nx_al]; omega)) (by rw [ln_pf, ln_pf]; omega) (by omega) ?_
  refine x_aload_0 dX4_notes_30 ?_
  refine x_dup dX4_notes_31 rfl ?_
  refine x_getKI dX4_notes_32 fl374_4 (by first | (exact TxL.k0 (by assumption)) | (first | assumption | (simp only [kd_pf, kd_al, nx_pf, nx_al, true_and, and_true]; (repeat (first | rw [if_neg (by omega)] | rw [if_pos (by omega)] | rw [if_pos trivial])); first | done | assumption | rfl))) (by exact (nf (by omega)).trans ((nf (by omega)).trans ((nf (by omega)).trans f9))) (fun r32 => ?_)
  refine x_iconst dX4_notes_35 ?_
  refine x_iadd dX4_notes_36 ?_
  refine x_putFI dX4_notes_37 fl374_4 (by first | (exact TxL.k0 (by assumption)) | (first | assumption | (simp only [kd_pf, kd_al, nx_pf, nx_al, true_and, and_true]; (repeat (first | rw [if_neg (by omega)] | rw [if_pos (by omega)] | rw [if_pos trivial])); first | done | assumption | rfl))) (by first | omega | (simp only [nx_pf, nx_al]; omega)) (by omega) ?_
  refine x_ret dX4_notes_40 rfl ?_
  exact k
theorem C_X4_isInA {i j : Int} (hA : TxA L t l u) (hi : -2147483648 ≤ i ∧ i ≤ 2147483647) (hj : -2147483648 ≤ j ∧ j ≤ 2147483647) (k1 : 0 ≤ i ∧ i < tWide (uT u) ∧ 0 ≤ j ∧ j < tDeep (uT u) → Q (.inl [aI 1]) L h) (k0 : ¬ (0 ≤ i ∧ i < tWide (uT u) ∧ 0 ≤ j ∧ j < tDeep (uT u)) → Q (.inl [aI 0]) L h) : am_C G mX4_isIn (d + 1) [aR t, aI i, aI j] L h Q := by
  obtain ⟨r1, -, ⟨f6, f7, -⟩, -⟩ := hA
  refine x_start okX4_isIn rfl rfl rfl rfl ?_
  refine x_iload_1 dX4_isIn_0 ?_
  refine x_if_lt (tgt := 28) dX4_isIn_1 rfl (by first | omega | (simp only [nx_pf, nx_al]; omega)) (fun c1 => ?_) (fun c1 => ?_)
  · refine x_iconst dX4_isIn_28 ?_
    refine x_zret dX4_isIn_29 rfl (by first | omega | (simp only [nx_pf, nx_al]; omega)) ?_
    first
    | exact k1 (by omega)
    | exact k0 (by omega)
  · refine x_iload_1 dX4_isIn_4 ?_
    refine x_aload_0 dX4_isIn_5 ?_
    refine x_getKI dX4_isIn_6 fl366_4 (by first | (exact TxL.k0 (by assumption)) | (first | assumption | (simp only [kd_pf, kd_al, nx_pf, nx_al, true_and, and_true]; (repeat (first | rw [if_neg (by omega)] | rw [if_pos (by omega)] | rw [if_pos trivial])); first | done | assumption | rfl))) (by exact f6) (fun r6 => ?_)
    refine x_icmp_ge (tgt := 28) dX4_isIn_9 rfl (by first | omega | (simp only [nx_pf, nx_al]; omega)) (by first | omega | (simp only [nx_pf, nx_al]; omega)) (fun c9 => ?_) (fun c9 => ?_)
    · refine x_iconst dX4_isIn_28 ?_
      refine x_zret dX4_isIn_29 rfl (by first | omega | (simp only [nx_pf, nx_al]; omega)) ?_
      first
      | exact k1 (by omega)
      | exact k0 (by omega)
    · refine x_iload_2 dX4_isIn_12 ?_
      refine x_if_lt (tgt := 28) dX4_isIn_13 rfl (by first | omega | (simp only [nx_pf, nx_al]; omega)) (fun c13 => ?_) (fun c13 => ?_)
      · refine x_iconst dX4_isIn_28 ?_
        refine x_zret dX4_isIn_29 rfl (by first | omega | (simp only [nx_pf, nx_al]; omega)) ?_
        first
        | exact k1 (by omega)
        | exact k0 (by omega)
      · refine x_iload_2 dX4_isIn_16 ?_
        refine x_aload_0 dX4_isIn_17 ?_
        refine x_getKI dX4_isIn_18 fl369_4 (by first | (exact TxL.k0 (by assumption)) | (first | assumption | (simp only [kd_pf, kd_al, nx_pf, nx_al, true_and, and_true]; (repeat (first | rw [if_neg (by omega)] | rw [if_pos (by omega)] | rw [if_pos trivial])); first | done | assumption | rfl))) (by exact f7) (fun r18 => ?_)
        refine x_icmp_ge (tgt := 28) dX4_isIn_21 rfl (by first | omega | (simp only [nx_pf, nx_al]; omega)) (by first | omega | (simp only [nx_pf, nx_al]; omega)) (fun c21 => ?_) (fun c21 => ?_)
        · refine x_iconst dX4_isIn_28 ?_
          refine x_zret dX4_isIn_29 rfl (by first | omega | (simp only [nx_pf, nx_al]; omega)) ?_
          first
          | exact k1 (by omega)
          | exact k0 (by omega)
        · refine x_iconst dX4_isIn_24 ?_
          refine x_goto (tgt := 29) dX4_isIn_25 rfl ?_
          refine x_zret dX4_isIn_29 rfl (by first | omega | (simp only [nx_pf, nx_al]; omega)) ?_
          first
          | exact k1 (by omega)
          | exact k0 (by omega)
end XTOLD3
