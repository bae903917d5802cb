/-! OPERATIONS: run, undo -/
set_option maxRecDepth 100000
section RUN
variable {G : am_G} {d : Nat} {L : am_L} {h h' : am_H} {Q : am_O → am_L → am_H → Prop} {x o s t : Int} {g : Sg} {b q : Int}
noncomputable def runR (T : Txt) (S : Row) : Nat → Row
  | 0 => S
  | n + 1 => minuteR T (runR T S n)
theorem RowI.run {T : Txt} {S : Row} (hI : RowI T S b q) (hT : TxtI T) (n : Nat) : RowI T (runR T S n) (b + n) (q + 7 * n) := by
  induction n with
  | zero => exact hI.mono (by omega) (by omega)
  | succ n ih => exact (ih.minute hT).mono (by omega) (by omega)
noncomputable def runG (g : Sg) (n : Int) : Sg := if n = 0 then g else setS (pushG g) (runR (gT g) (gS g) n.toNat)
set_option maxHeartbeats 4000000 in
theorem C_X0_run {n : Int} (hC : CoI L h x t g) (hI : SgI g b q) (hb : b ≤ 80000 ∧ q ≤ 88500) (hn : rg32 n) (kt : 0 ≤ n ∧ n ≤ 200 → ∀ h', CoI L h' x t (runG g n) → FX h h' x → Q (.inl [aI (rM (runR (gT g) (gS g) n.toNat))]) L h') (kf : ¬ (0 ≤ n ∧ n ≤ 200) → Q (.inl [aI (-1)]) L h) : am_C G mX0_run (d + 430) [aR x, aI n] L h Q := by
  have hT := hI.1
  have hcT := hC.1
  have hK := hcT.mk
  have htx := hcT.tx
  have hht := hcT.ht
  have hcl := hcT.cl
  have bm := hI.2.1.2.2.2.2.2.2.1
  have loop : ∀ (h1 : am_H) (g1 : Sg), CoI L h1 x t g1 → gT g1 = gT g → gS g1 = gS g → FX h h1 x → (0 ≤ n ∧ n ≤ 200) → setS g1 (runR (gT g) (gS g) n.toNat) = runG g n → am_X G mX0_run (d + 430) 21 [aR x, aI n, aU] [] L h1 Q := by
    intro h1 g1 hC1 eT eS fx hn1 eg
    refine x_iconst dX0_run_21 ?_
    refine x_istore_2 dX0_run_22 rfl ?_
    have hrc1 := hC1.1.rc
    rw [eT, eS] at hrc1
    refine x_for n (fun i h2 => RC L h2 (x + 17) (gT g) (runR (gT g) (gS g) i.toNat) ∧ FrC h1 h2 (x + 17)) (fun i h2 => am_X G mX0_run (d + 430) 23 [aR x, aI n, aI i] [] L h2 Q) (fun i h2 g0 g1' hP ih => ?_) h1 hn1.1 ⟨hrc1, FrC.rf h1 _⟩
    obtain ⟨p1, p2⟩ := hP
    have hIi := hI.2.1.run hT i.toNat
    have hht2 : h2 x 3 = t := by rw [p2 x (by omega)]; exact hC1.1.ht
    refine x_iload_2 dX0_run_23 ?_
    refine x_iload_1 dX0_run_24 ?_
    refine x_icmp_ge (tgt := 45) dX0_run_25 rfl (by omega) (by omega) (fun c25 => ?_) (fun c25 => ?_)
    · refine x_aload_0 dX0_run_45 ?_
      refine x_getR dX0_run_46 fl578_0 rfl (by first | (exact MkL.k0 (by assumption)) | (assumption)) (by first | (exact MkL.v_cloth (by assumption)) | (assumption)) ?_
      refine x_getI_ dX0_run_49 fl451_5 (by first | (exact ClL.k0 (by assumption)) | (assumption)) (fun r49 => ?_)
      have e8 := p1.2.2.2.2.2.1
      rw [e8] at r49 ⊢
      refine x_iret dX0_run_52 rfl ?_
      rw [show i = n by omega] at p1 ⊢
      refine kt hn1 h2 ?_ (fx.tr (p2.fx (by omega)))
      rw [← eg]
      refine hC1.setS ?_ p2
      rw [eT]
      exact p1
    · refine x_aload_0 dX0_run_28 ?_
      refine x_getR dX0_run_29 fl578_0 rfl (by first | (exact MkL.k0 (by assumption)) | (assumption)) (by first | (exact MkL.v_cloth (by assumption)) | (assumption)) ?_
      refine x_aload_0 dX0_run_32 ?_
      refine x_getW dX0_run_33 fl574_0 rfl (by first | (exact MkL.k0 (by assumption)) | (assumption)) (by assumption) ?_
      refine x_callV1 dX0_run_36 rfl okX5_minute q1288 q1289 q1290 (by first | assumption | (exact ClL.k0 (by assumption))) am_k5 rfl (C_X5_minute (d := d + 4) p1 hIi ⟨by omega, by omega⟩ hT htx (fun h3 hr3 hf3 => (x_k0 ?_)))
      refine x_iinc2 dX0_run_39 rfl ?_
      refine x_goto (tgt := 23) dX0_run_42 rfl ?_
      refine ih h3 (by omega) ⟨?_, p2.tr hf3⟩
      rw [show (i + 1).toNat = i.toNat + 1 by omega]
      exact hr3
  refine x_start okX0_run rfl rfl rfl rfl ?_
  refine x_iload_1 dX0_run_0 ?_
  refine x_iconst dX0_run_1 ?_
  refine x_sipush dX0_run_2 rfl ?_
  refine x_callS3 dX0_run_5 rfl okX0_isIn q1201 q1202 rfl (C_X0_isIn hn ⟨by decide, by decide⟩ ⟨by decide, by decide⟩ (x_k1 ?_))
  refine x_if_ne (tgt := 13) dX0_run_8 rfl (by split <;> omega) (fun c8 => ?_) (fun c8 => ?_)
  · refine x_iload_1 dX0_run_13 ?_
    refine x_if_le (tgt := 21) dX0_run_14 rfl (by omega) (fun c14 => ?_) (fun c14 => ?_)
    · have hn1 : 0 ≤ n ∧ n ≤ 200 := by split at c8 <;> omega
      have e0 : n = 0 := by omega
      refine loop h g hC rfl rfl (fun _ _ => rfl) hn1 ?_
      unfold runG
      rw [if_pos e0, e0]
      rfl
    · have hn1 : 0 ≤ n ∧ n ≤ 200 := by split at c8 <;> omega
      refine x_aload_0 dX0_run_17 ?_
      refine x_callV0 dX0_run_18 rfl okX0_keeps q1259 q1261 qs34 (by first | assumption | (exact MkL.k0 (by assumption))) am_k0 rfl (C_X0_keeps hC hI (fun h3 hC3 e3 f3 => (x_k0 ?_)))
      refine loop h3 (pushG g) hC3 rfl rfl f3 hn1 ?_
      unfold runG
      rw [if_neg (by omega)]
  · refine x_iconst dX0_run_11 ?_
    refine x_iret dX0_run_12 rfl ?_
    refine kf (fun z => ?_)
    rw [if_pos z] at c8
    exact absurd c8 (by decide)
set_option maxHeartbeats 4000000 in
theorem C_X13_run {n : Int} (hC : TwI L h o s g) (hI : SgI g b q) (hb : b ≤ 80000 ∧ q ≤ 88500) (hn : rg32 n) (kt : 0 ≤ n ∧ n ≤ 200 → ∀ h', TwI L h' o s (runG g n) → FO h h' o → Q (.inl [aI (rM (runR (gT g) (gS g) n.toNat))]) L h') (kf : ¬ (0 ≤ n ∧ n ≤ 200) → Q (.inl [aI (-1)]) L h) : am_C G mX13_run (d + 12) [aR o, aI n] L h Q := by
  have hT := hI.1
  have hcT := hC.1
  have hM := hcT.1
  have hL := hM.1
  have hnow := hcT.2
  refine x_start okX13_run rfl rfl rfl rfl ?_
  refine x_iload_1 dX13_run_0 ?_
  refine x_iconst dX13_run_1 ?_
  refine x_sipush dX13_run_2 rfl ?_
  refine x_callS3 dX13_run_5 rfl okX13_in q1931 q1932 rfl (C_X13_in hn ⟨by decide, by decide⟩ ⟨by decide, by decide⟩ (x_k1 ?_))
  refine x_if_ne (tgt := 13) dX13_run_8 rfl (by split <;> omega) (fun c8 => ?_) (fun c8 => ?_)
  · refine x_iload_1 dX13_run_13 ?_
    refine x_if_ne (tgt := 25) dX13_run_14 rfl (by omega) (fun c14 => ?_) (fun c14 => ?_)
    · have hn1 : 0 ≤ n ∧ n ≤ 200 := by split at c8 <;> omega
      refine x_aload_0 dX13_run_25 ?_
      refine x_callV0 dX13_run_26 rfl okX13_copies q1934 q1936 qs81 (by first | assumption | (exact MdL.k0 (by assumption))) am_k13 rfl (C_X13_copiesR hL hcT.2 hI.2.1 hT (fun h1 e1 f1 e2 e3 => (x_k0 ?_)))
      refine x_iconst dX13_run_29 ?_
      refine x_istore_2 dX13_run_30 rfl ?_
      refine x_for n (fun i h2 => RwF (h2 (o + 38)) (tM (gT g)) (runR (gT g) (gS g) i.toNat) ∧ FrR h1 h2 o) (fun i h2 => am_X G mX13_run (d + 12) 31 [aR o, aI n, aI i] [] L h2 Q) (fun i h2 g0 g1' hP ih => ?_) h1 hn1.1 ⟨e2, FrR.rf h1 o⟩
      obtain ⟨p1, p2⟩ := hP
      have hIi := hI.2.1.run hT i.toNat
      have f2 : FrW h h2 o := f1.tr p2.w
      have hC2 := hC.mv hT f2
      have bMi := hIi.2.2.2.2.2.2.1
      refine x_iload_2 dX13_run_31 ?_
      refine x_iload_1 dX13_run_32 ?_
      refine x_icmp_ge (tgt := 46) dX13_run_33 rfl (by omega) (by omega) (fun c33 => ?_) (fun c33 => ?_)
      · have ei : i = n := by omega
        subst ei
        refine x_aload_0 dX13_run_46 ?_
        refine x_callV0 dX13_run_47 rfl okX13_keeps q1997 q1999 qs90 (by first | assumption | (exact MdL.k0 (by assumption))) am_k13 rfl (C_X13_keeps hC2 (hI.mono (b' := b + i.toNat) (q' := q + 7 * i.toNat) (by omega) (by omega)) p1 hIi (fun h4 hC4 f4 => (x_k0 ?_)))
        refine x_aload_0 dX13_run_50 ?_
        refine x_getR dX13_run_51 fl1629_13 rfl (by first | (exact MdL.k0 (by assumption)) | (assumption)) (by first | (exact MdL.v_now (by assumption)) | (assumption)) ?_
        refine x_bipush dX13_run_54 rfl ?_
        refine x_iald_ dX13_run_56 (by first | (exact MdL.k_now (by assumption)) | (assumption)) (by first | (exact MdL.x_now (by assumption) (by omega) (by omega)) | (omega)) (fun r56 => ?_)
        have e28 := hC4.1.2.2.2.2.1
        rw [e28] at r56 ⊢
        refine x_iret dX13_run_57 rfl ?_
        refine kt hn1 h4 ?_ (f2.fo.tr f4)
        unfold runG
        rw [if_neg (by omega)]
        exact hC4
      · refine x_aload_0 dX13_run_36 ?_
        refine x_callV0 dX13_run_37 rfl okX13_minuteGoes q2022 q2024 qs92 (by first | assumption | (exact MdL.k0 (by assumption))) am_k13 rfl (C_X13_minuteGoes (lt := fun _ => 0) hC2.1.1 hT p1 hIi ⟨by omega, by omega⟩ (fun m z0 z1 => by rw [p2.later]; exact e3 m z0 (by have := hT.1; omega)) (fun _ => by omega) (fun h3 r3 f3 => (x_k0 ?_)))
        refine x_iinc2 dX13_run_40 rfl ?_
        refine x_goto (tgt := 31) dX13_run_43 rfl ?_
        refine ih h3 (by omega) ⟨?_, p2.tr f3⟩
        rw [goL_0 bMi.1] at r3
        rw [show (i + 1).toNat = i.toNat + 1 by omega]
        exact r3
    · have hn1 : 0 ≤ n ∧ n ≤ 200 := by split at c8 <;> omega
      have e28 := hnow.2.2.2.1
      refine x_aload_0 dX13_run_17 ?_
      refine x_getR dX13_run_18 fl1629_13 rfl (by first | (exact MdL.k0 (by assumption)) | (assumption)) (by first | (exact MdL.v_now (by assumption)) | (assumption)) ?_
      refine x_bipush dX13_run_21 rfl ?_
      refine x_iald_ dX13_run_23 (by first | (exact MdL.k_now (by assumption)) | (assumption)) (by first | (exact MdL.x_now (by assumption) (by omega) (by omega)) | (omega)) (fun r23 => ?_)
      rw [e28] at r23 ⊢
      refine x_iret dX13_run_24 rfl ?_
      have e0 : n = 0 := by omega
      subst e0
      exact kt hn1 h hC (fun _ _ => rfl)
  · refine x_iconst dX13_run_11 ?_
    refine x_iret dX13_run_12 rfl ?_
    refine kf (fun z => ?_)
    rw [if_pos z] at c8
    exact absurd c8 (by decide)
end RUN
