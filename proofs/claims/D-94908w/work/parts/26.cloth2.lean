/-! CLOTH: around, winds, over, cuts, lastLaid, pieces, top -/
set_option maxRecDepth 100000
section CLOTH2
variable {G : am_G} {d : Nat} {L : am_L} {h : am_H} {Q : am_O → am_L → am_H → Prop} {c t b q : Int} {T : Txt} {S : Row}
theorem ar_eq (hr : RC L h c T S) (hI : RowI T S b q) (hT : TxtI T) (sv tv ab : Int) : arS 7 (h (c + 3)) (fun o => h (c + 14 + o)) (fun o => h (c + 22 + o)) sv tv ab = othR S (tM T) sv tv ab := by
  obtain ⟨-, rn, -, rk, -⟩ := hr
  have hM := hT.1
  unfold othR arS
  rw [show sumI (tM T) (fun o => sumI (rN S o) (arF (rS S) (rT S) sv tv ab o)) = sumI 7 (fun o => sumI (rN S o) (arF (rS S) (rT S) sv tv ab o)) from (sumI_ext hM.1 hM.2 (fun k h0 h1 => by
    show sumI (rN S k) _ = 0
    rw [(hI.1 k (by omega) h1).2.1 h0]
    rfl)).symm]
  refine sumI_congr (fun o h0 h1 => ?_)
  rw [rn o h0 h1]
  refine sumI_congr (fun j h2 h3 => ?_)
  obtain ⟨-, e2, e3⟩ := rk o j h0 h1 h2 h3
  unfold arF
  simp only [e2, e3]
theorem oth_bd (hI : RowI T S b q) (hT : TxtI T) (sv tv ab : Int) : 0 ≤ othR S (tM T) sv tv ab ∧ othR S (tM T) sv tv ab ≤ 420 := by
  have hM := hT.1
  have := arS_bd (M := tM T) (n := rN S) (s := rS S) (t := rT S) (sv := sv) (tv := tv) (ab := ab) hM.1 (fun o h0 h1 => by
    have := (hI.1 o h0 (by omega)).1
    have := lng_bd hT o
    omega)
  unfold othR
  omega
theorem RC.nb (hr : RC L h c T S) (hI : RowI T S b q) (hT : TxtI T) : ClN h c := fun m h0 h1 => by
  rw [hr.2.1 m h0 h1]
  have := (hI.1 m h0 h1).1
  have := lng_bd hT m
  omega
theorem C_around {m i ab : Int} (hr : RC L h c T S) (hI : RowI T S b q) (hT : TxtI T) (hm : 0 ≤ m ∧ m < tM T) (hi : 0 ≤ i ∧ i < rN S m) (hab : 0 ≤ ab ∧ ab ≤ 1)
    (k : Q (.inl [aI (othR S (tM T) (rS S m i) (rT S m i) ab)]) L h) : am_C G mX5_around (d + 1) [aR c, aI m, aI i, aI ab] L h Q := by
  have hM := hT.1
  have hn := (hI.1 m hm.1 (by omega)).1
  have hl := lng_bd hT m
  obtain ⟨-, e2, e3⟩ := hr.2.2.2.1 m i hm.1 (by omega) hi.1 hi.2
  refine C_X5_around hr.1 (hr.nb hI hT) ⟨hm.1, by omega⟩ ⟨hi.1, by omega⟩ hab ?_
  rw [e2, e3, ar_eq hr hI hT]
  exact k
set_option maxHeartbeats 4000000 in
theorem C_X5_winds {m : Int} (hr : RC L h c T S) (hI : RowI T S b q) (hT : TxtI T) (hm : 0 ≤ m ∧ m < tM T)
    (kt : canWind T S m → ∀ h', RC L h' c T (windR S m) → FrC h h' c → Q (.inl [aI 1]) L h') (kf : ¬ canWind T S m → Q (.inl [aI 0]) L h) : am_C G mX5_winds (d + 2) [aR c, aI m] L h Q := by
  have hr0 := hr
  obtain ⟨⟨k0, f0, f1, f2, f3, f4, f5, f6, f10, k1, l1, k2, l2, k3, l3, k4, l4, k5, l5, k13, l13, k21, l21, fw, fs, ft, k29, f29, k30, l30⟩, rn, rx, rk, r7, r8, r9⟩ := hr
  have hm7 : m < 7 := by have := hT.1; omega
  have en := rn m hm.1 hm7
  obtain ⟨ex, ey, el⟩ := rx m hm.1 hm.2
  have lw := (fw m hm.1 hm7).2.2
  have bl := lng_bd hT m
  have bn := (hI.1 m hm.1 hm7).1
  have b01 := bt_01 (rL S) m
  have bo := oth_bd hI hT (rS S m (rN S m - 1)) (rT S m (rN S m - 1)) 1
  obtain ⟨bx, -⟩ := hI.2.1 m hm.1 hm.2
  unfold inT at bx
  have htw := hT.2.1
  have htd := hT.2.2.1
  refine x_start okX5_winds rfl rfl rfl rfl ?_
  refine x_aload_0 dX5_winds_0 ?_
  refine x_iload_1 dX5_winds_1 ?_
  refine x_callV1 dX5_winds_2 rfl okX5_isLost q1217 q1207 q1208 (by first | first | assumption | exact (fw _ (by omega) (by omega)).2.1 | exact (fs _ (by omega) (by omega)).2.1 | exact (ft _ (by omega) (by omega)).2.1 | (exact ClL.k0 (by assumption))) am_k5 rfl (C_X5_isLost hr0 ⟨hm.1, hm7⟩ (x_k1 ?_))
  refine x_if_ne (tgt := 34) dX5_winds_5 rfl (by omega) (fun c5 => ?_) (fun c5 => ?_)
  · refine x_iconst dX5_winds_34 ?_
    refine x_zret dX5_winds_35 rfl (by omega) ?_
    refine kf ?_
    unfold canWind
    omega
  · refine x_aload_0 dX5_winds_8 ?_
    refine x_getR dX5_winds_9 fl435_5 rfl (by first | (exact ClL.k0 (by assumption)) | (first | assumption | exact (fw _ (by omega) (by omega)).2.1 | exact (fs _ (by omega) (by omega)).2.1 | exact (ft _ (by omega) (by omega)).2.1)) (by first | (exact ClL.f2 (by assumption)) | (first | assumption | exact (fw _ (by omega) (by omega)).1 | exact (fs _ (by omega) (by omega)).1 | exact (ft _ (by omega) (by omega)).1)) ?_
    refine x_iload_1 dX5_winds_12 ?_
    refine x_iald_ dX5_winds_13 (by first | (exact ClL.k3 (by assumption)) | (first | assumption | exact (fw _ (by omega) (by omega)).2.1 | exact (fs _ (by omega) (by omega)).2.1 | exact (ft _ (by omega) (by omega)).2.1)) (by first | (exact ClL.r3 (by assumption) (by omega) (by omega)) | (omega)) (fun r13 => ?_)
    rw [en] at r13 ⊢
    refine x_if_eq (tgt := 34) dX5_winds_14 rfl (by omega) (fun c14 => ?_) (fun c14 => ?_)
    · refine x_iconst dX5_winds_34 ?_
      refine x_zret dX5_winds_35 rfl (by omega) ?_
      refine kf ?_
      unfold canWind
      omega
    · refine x_aload_0 dX5_winds_17 ?_
      refine x_iload_1 dX5_winds_18 ?_
      refine x_aload_0 dX5_winds_19 ?_
      refine x_getR dX5_winds_20 fl435_5 rfl (by first | (exact ClL.k0 (by assumption)) | (first | assumption | exact (fw _ (by omega) (by omega)).2.1 | exact (fs _ (by omega) (by omega)).2.1 | exact (ft _ (by omega) (by omega)).2.1)) (by first | (exact ClL.f2 (by assumption)) | (first | assumption | exact (fw _ (by omega) (by omega)).1 | exact (fs _ (by omega) (by omega)).1 | exact (ft _ (by omega) (by omega)).1)) ?_
      refine x_iload_1 dX5_winds_23 ?_
      refine x_iald_ dX5_winds_24 (by first | (exact ClL.k3 (by assumption)) | (first | assumption | exact (fw _ (by omega) (by omega)).2.1 | exact (fs _ (by omega) (by omega)).2.1 | exact (ft _ (by omega) (by omega)).2.1)) (by first | (exact ClL.r3 (by assumption) (by omega) (by omega)) | (omega)) (fun r24 => ?_)
      rw [en] at r24 ⊢
      refine x_iconst dX5_winds_25 ?_
      refine x_isub dX5_winds_26 ?_
      refine x_iconst dX5_winds_27 ?_
      refine x_callV3 dX5_winds_28 rfl okX5_around q1271 q1230 q1231 (by first | first | assumption | exact (fw _ (by omega) (by omega)).2.1 | exact (fs _ (by omega) (by omega)).2.1 | exact (ft _ (by omega) (by omega)).2.1 | (exact ClL.k0 (by assumption))) am_k5 rfl (C_around hr0 hI hT hm (i := rN S m - 1) (ab := 1) ⟨by omega, by omega⟩ ⟨by omega, by omega⟩ (x_k1 ?_))
      refine x_if_le (tgt := 36) dX5_winds_31 rfl (by omega) (fun c31 => ?_) (fun c31 => ?_)
      · have hcan : canWind T S m := by
          unfold canWind
          omega
        have hw := hI.2.2.1 m (rN S m - 1) hm.1 hm.2 (by omega) (by omega)
        have bdx := dX_bd (rW S m (rN S m - 1))
        have bdy := dY_bd (rW S m (rN S m - 1))
        have ew := (rk m (rN S m - 1) hm.1 hm7 (by omega) (by omega)).1
        have hwr : rg32 (rW S m (rN S m - 1)) := ⟨by omega, by omega⟩
        refine x_aload_0 dX5_winds_36 ?_
        refine x_getR dX5_winds_37 fl435_5 rfl (by first | (exact ClL.k0 (by assumption)) | (first | assumption | exact (fw _ (by omega) (by omega)).2.1 | exact (fs _ (by omega) (by omega)).2.1 | exact (ft _ (by omega) (by omega)).2.1)) (by first | (exact ClL.f2 (by assumption)) | (first | assumption | exact (fw _ (by omega) (by omega)).1 | exact (fs _ (by omega) (by omega)).1 | exact (ft _ (by omega) (by omega)).1)) ?_
        refine x_iload_1 dX5_winds_40 ?_
        refine x_dup2 dX5_winds_41 rfl rfl ?_
        refine x_iald_ dX5_winds_42 (by first | (exact ClL.k3 (by assumption)) | (first | assumption | exact (fw _ (by omega) (by omega)).2.1 | exact (fs _ (by omega) (by omega)).2.1 | exact (ft _ (by omega) (by omega)).2.1)) (by first | (exact ClL.r3 (by assumption) (by omega) (by omega)) | (omega)) (fun r42 => ?_)
        rw [en] at r42 ⊢
        refine x_iconst dX5_winds_43 ?_
        refine x_isub dX5_winds_44 ?_
        refine x_iast_ dX5_winds_45 (by first | (exact ClL.k3 (by assumption)) | (first | assumption | exact (fw _ (by omega) (by omega)).2.1 | exact (fs _ (by omega) (by omega)).2.1 | exact (ft _ (by omega) (by omega)).2.1)) (by first | (exact ClL.r3 (by assumption) (by omega) (by omega)) | (omega)) (by omega) ?_
        refine x_aload_0 dX5_winds_46 ?_
        refine x_getR dX5_winds_47 fl442_5 rfl (by first | (exact ClL.k0 (by assumption)) | (first | assumption | exact (fw _ (by omega) (by omega)).2.1 | exact (fs _ (by omega) (by omega)).2.1 | exact (ft _ (by omega) (by omega)).2.1)) (by first | (exact ClL.f4 (by assumption)) | (first | assumption | exact (fw _ (by omega) (by omega)).1 | exact (fs _ (by omega) (by omega)).1 | exact (ft _ (by omega) (by omega)).1)) ?_
        refine x_iload_1 dX5_winds_50 ?_
        refine x_aald dX5_winds_51 (by first | (exact ClL.k5 (by assumption)) | (first | assumption | exact (fw _ (by omega) (by omega)).2.1 | exact (fs _ (by omega) (by omega)).2.1 | exact (ft _ (by omega) (by omega)).2.1)) (by decide) (by decide) (by first | (exact ClL.r5 (by assumption) (by omega) (by omega)) | (omega)) (by first | (exact ClL.fw (by assumption) (by omega) (by omega)) | (first | assumption | exact (fw _ (by omega) (by omega)).1 | exact (fs _ (by omega) (by omega)).1 | exact (ft _ (by omega) (by omega)).1)) ?_
        refine x_aload_0 dX5_winds_52 ?_
        refine x_getR dX5_winds_53 fl435_5 rfl (by first | (exact ClL.k0 (by assumption)) | (first | assumption | exact (fw _ (by omega) (by omega)).2.1 | exact (fs _ (by omega) (by omega)).2.1 | exact (ft _ (by omega) (by omega)).2.1)) (by first | (exact ClL.f2 (by assumption)) | (first | assumption | exact (fw _ (by omega) (by omega)).1 | exact (fs _ (by omega) (by omega)).1 | exact (ft _ (by omega) (by omega)).1)) ?_
        refine x_iload_1 dX5_winds_56 ?_
        refine x_iald_ dX5_winds_57 (by first | (exact ClL.k3 (by assumption)) | (first | assumption | exact (fw _ (by omega) (by omega)).2.1 | exact (fs _ (by omega) (by omega)).2.1 | exact (ft _ (by omega) (by omega)).2.1)) (by first | (exact ClL.r3 (by assumption) (by omega) (by omega)) | (omega)) (fun r57 => ?_)
        simp (disch := omega) only [am_st_s] at r57 ⊢
        refine x_iald_ dX5_winds_58 (by first | (exact ClL.kw (by assumption) (by omega) (by omega)) | (first | assumption | exact (fw _ (by omega) (by omega)).2.1 | exact (fs _ (by omega) (by omega)).2.1 | exact (ft _ (by omega) (by omega)).2.1)) (by first | (exact ClL.rw (by assumption) (by omega) (by omega) (by omega) (by omega)) | (omega)) (fun r58 => ?_)
        simp (disch := omega) only [am_st_o] at r58 ⊢
        rw [ew] at r58 ⊢
        refine x_istore_2 dX5_winds_59 rfl ?_
        refine x_aload_0 dX5_winds_60 ?_
        refine x_getR dX5_winds_61 fl431_5 rfl (by first | (exact ClL.k0 (by assumption)) | (first | assumption | exact (fw _ (by omega) (by omega)).2.1 | exact (fs _ (by omega) (by omega)).2.1 | exact (ft _ (by omega) (by omega)).2.1)) (by first | (exact ClL.f0 (by assumption)) | (first | assumption | exact (fw _ (by omega) (by omega)).1 | exact (fs _ (by omega) (by omega)).1 | exact (ft _ (by omega) (by omega)).1)) ?_
        refine x_iload_1 dX5_winds_64 ?_
        refine x_dup2 dX5_winds_65 rfl rfl ?_
        refine x_iald_ dX5_winds_66 (by first | (exact ClL.k1 (by assumption)) | (first | assumption | exact (fw _ (by omega) (by omega)).2.1 | exact (fs _ (by omega) (by omega)).2.1 | exact (ft _ (by omega) (by omega)).2.1)) (by first | (exact ClL.r1 (by assumption) (by omega) (by omega)) | (omega)) (fun r66 => ?_)
        simp (disch := omega) only [am_st_o] at r66 ⊢
        rw [ex] at r66 ⊢
        refine x_iload_2 dX5_winds_67 ?_
        refine x_callSN1 dX5_winds_68 rfl okX0_byX q1246 q1247 rfl (C_X0_byX hwr (x_k1 ?_))
        refine x_isub dX5_winds_71 ?_
        refine x_iast_ dX5_winds_72 (by first | (exact ClL.k1 (by assumption)) | (first | assumption | exact (fw _ (by omega) (by omega)).2.1 | exact (fs _ (by omega) (by omega)).2.1 | exact (ft _ (by omega) (by omega)).2.1)) (by first | (exact ClL.r1 (by assumption) (by omega) (by omega)) | (omega)) (by omega) ?_
        refine x_aload_0 dX5_winds_73 ?_
        refine x_getR dX5_winds_74 fl433_5 rfl (by first | (exact ClL.k0 (by assumption)) | (first | assumption | exact (fw _ (by omega) (by omega)).2.1 | exact (fs _ (by omega) (by omega)).2.1 | exact (ft _ (by omega) (by omega)).2.1)) (by first | (exact ClL.f1 (by assumption)) | (first | assumption | exact (fw _ (by omega) (by omega)).1 | exact (fs _ (by omega) (by omega)).1 | exact (ft _ (by omega) (by omega)).1)) ?_
        refine x_iload_1 dX5_winds_77 ?_
        refine x_dup2 dX5_winds_78 rfl rfl ?_
        refine x_iald_ dX5_winds_79 (by first | (exact ClL.k2 (by assumption)) | (first | assumption | exact (fw _ (by omega) (by omega)).2.1 | exact (fs _ (by omega) (by omega)).2.1 | exact (ft _ (by omega) (by omega)).2.1)) (by first | (exact ClL.r2 (by assumption) (by omega) (by omega)) | (omega)) (fun r79 => ?_)
        simp (disch := omega) only [am_st_o] at r79 ⊢
        rw [ey] at r79 ⊢
        refine x_iload_2 dX5_winds_80 ?_
        refine x_callSN1 dX5_winds_81 rfl okX0_byY q1249 q1250 rfl (C_X0_byY hwr (x_k1 ?_))
        refine x_isub dX5_winds_84 ?_
        refine x_iast_ dX5_winds_85 (by first | (exact ClL.k2 (by assumption)) | (first | assumption | exact (fw _ (by omega) (by omega)).2.1 | exact (fs _ (by omega) (by omega)).2.1 | exact (ft _ (by omega) (by omega)).2.1)) (by first | (exact ClL.r2 (by assumption) (by omega) (by omega)) | (omega)) (by omega) ?_
        refine x_iconst dX5_winds_86 ?_
        refine x_zret dX5_winds_87 rfl (by omega) ?_
        refine kt hcan _ ⟨hr0.1, fun o h0 h1 => ?_, fun o h0 h1 => ?_, fun o j h0 h1 h2 h3 => ?_, ?_, ?_, ?_⟩ ?_
        · have := rn o h0 h1
          simp (disch := omega) only [am_st_o, am_st_at, true_and]
          show _ = up1 (rN S) m (rN S m - 1) o
          unfold up1
          (repeat' split) <;> omega
        · obtain ⟨a1, a2, a3⟩ := rx o h0 h1
          simp (disch := omega) only [am_st_o, am_st_at, true_and]
          show _ = up1 (rX S) m _ o ∧ _ = up1 (rY S) m _ o ∧ _
          unfold up1
          refine ⟨?_, ?_, ?_⟩ <;> (repeat' split) <;> omega
        · have h3' : j < up1 (rN S) m (rN S m - 1) o := h3
          unfold up1 at h3'
          show _ = rW S o j ∧ _ = rS S o j ∧ _ = rT S o j
          simp (disch := omega) only [am_st_o]
          refine rk o j h0 h1 h2 ?_
          by_cases ho : o = m
          · subst ho
            rw [if_pos rfl] at h3'
            omega
          · rw [if_neg ho] at h3'
            exact h3'
        · simp (disch := omega) only [am_st_o]
          exact r7
        · simp (disch := omega) only [am_st_o]
          exact r8
        · simp (disch := omega) only [am_st_o]
          exact r9
        · intro a ha
          simp (disch := omega) only [am_st_o]
      · refine x_iconst dX5_winds_34 ?_
        refine x_zret dX5_winds_35 rfl (by omega) ?_
        refine kf ?_
        unfold canWind
        omega
set_option maxHeartbeats 4000000 in
theorem C_X5_over {m o : Int} (hr : RC L h c T S) (hI : RowI T S b q) (hT : TxtI T) (hm : 0 ≤ m ∧ m < 7) (ho : 0 ≤ o ∧ o < 7)
    (k : Q (.inl [aI (ovR S m o)]) L h) : am_C G mX5_over (d + 1) [aR c, aI m, aI o] L h Q := by
  have hnb := hr.nb hI hT
  obtain ⟨⟨k0, f0, f1, f2, f3, f4, f5, f6, f10, k1, l1, k2, l2, k3, l3, k4, l4, k5, l5, k13, l13, k21, l21, fw, fs, ft, k29, f29, k30, l30⟩, rn, rx, rk, r7, r8, r9⟩ := hr
  have nm := hnb m hm.1 hm.2
  have no := hnb o ho.1 ho.2
  have em := rn m hm.1 hm.2
  have eo := rn o ho.1 ho.2
  have s1 := (fs m hm.1 hm.2).2.2
  have s2 := (fs o ho.1 ho.2).2.2
  have t1 := (ft m hm.1 hm.2).2.2
  have t2 := (ft o ho.1 ho.2).2.2
  refine x_start okX5_over rfl rfl rfl rfl ?_
  refine x_iconst dX5_over_0 ?_
  refine x_istore_3 dX5_over_1 rfl ?_
  refine x_iconst dX5_over_2 ?_
  refine x_istore4 dX5_over_3 rfl ?_
  refine x_up2 (rN S m) (fun i n w => 0 ≤ i → i ≤ rN S m → n = sumI i (fun i => sumI (rN S o) (ovF S m o i)) → am_X G mX5_over (d + 1) 5 [aR c, aI m, aI o, aI n, aI i, w] [] L h Q) ?_ 0 0 aU (by omega) (by omega) rfl
  intro i n w ih h0 h1 hn1
  refine x_iload4 dX5_over_5 ?_
  refine x_aload_0 dX5_over_7 ?_
  refine x_getR dX5_over_8 fl435_5 rfl (by first | (exact ClL.k0 (by assumption)) | (first | assumption | exact (fw _ (by omega) (by omega)).2.1 | exact (fs _ (by omega) (by omega)).2.1 | exact (ft _ (by omega) (by omega)).2.1)) (by first | (exact ClL.f2 (by assumption)) | (first | assumption | exact (fw _ (by omega) (by omega)).1 | exact (fs _ (by omega) (by omega)).1 | exact (ft _ (by omega) (by omega)).1)) ?_
  refine x_iload_1 dX5_over_11 ?_
  refine x_iald_ dX5_over_12 (by first | (exact ClL.k3 (by assumption)) | (first | assumption | exact (fw _ (by omega) (by omega)).2.1 | exact (fs _ (by omega) (by omega)).2.1 | exact (ft _ (by omega) (by omega)).2.1)) (by first | (exact ClL.r3 (by assumption) (by omega) (by omega)) | (omega)) (fun r12 => ?_)
  refine x_icmp_ge (tgt := 92) dX5_over_13 rfl (by omega) (by omega) (fun c13 => ?_) (fun c13 => ?_)
  · refine x_iload_3 dX5_over_92 ?_
    refine x_iret dX5_over_93 rfl ?_
    rw [hn1, show i = rN S m by omega]; exact k
  · refine x_iconst dX5_over_16 ?_
    refine x_istore5 dX5_over_17 rfl ?_
    refine x_up1 (rN S o) (fun j n' => 0 ≤ j → j ≤ rN S o → n' = n + sumI j (ovF S m o i) → am_X G mX5_over (d + 1) 19 [aR c, aI m, aI o, aI n', aI i, aI j] [] L h Q) ?_ 0 n (by omega) (by omega) (by rw [sumI_0]; omega)
    intro j n' ih2 g0 g1 hn2
    refine x_iload5 dX5_over_19 ?_
    refine x_aload_0 dX5_over_21 ?_
    refine x_getR dX5_over_22 fl435_5 rfl (by first | (exact ClL.k0 (by assumption)) | (first | assumption | exact (fw _ (by omega) (by omega)).2.1 | exact (fs _ (by omega) (by omega)).2.1 | exact (ft _ (by omega) (by omega)).2.1)) (by first | (exact ClL.f2 (by assumption)) | (first | assumption | exact (fw _ (by omega) (by omega)).1 | exact (fs _ (by omega) (by omega)).1 | exact (ft _ (by omega) (by omega)).1)) ?_
    refine x_iload_2 dX5_over_25 ?_
    refine x_iald_ dX5_over_26 (by first | (exact ClL.k3 (by assumption)) | (first | assumption | exact (fw _ (by omega) (by omega)).2.1 | exact (fs _ (by omega) (by omega)).2.1 | exact (ft _ (by omega) (by omega)).2.1)) (by first | (exact ClL.r3 (by assumption) (by omega) (by omega)) | (omega)) (fun r26 => ?_)
    refine x_icmp_ge (tgt := 86) dX5_over_27 rfl (by omega) (by omega) (fun c27 => ?_) (fun c27 => ?_)
    · refine x_iinc4 dX5_over_86 rfl ?_
      refine x_goto (tgt := 5) dX5_over_89 rfl ?_
      refine ih (by omega) _ _ (by omega) (by omega) ?_
      rw [hn2, hn1, show j = rN S o by omega]
      exact (sumI_s _ h0).symm
    · obtain ⟨-, e2, e3⟩ := rk m i hm.1 hm.2 h0 (by omega)
      obtain ⟨-, e4, e5⟩ := rk o j ho.1 ho.2 g0 (by omega)
      refine x_iload_3 dX5_over_30 ?_
      refine x_aload_0 dX5_over_31 ?_
      refine x_getR dX5_over_32 fl444_5 rfl (by first | (exact ClL.k0 (by assumption)) | (first | assumption | exact (fw _ (by omega) (by omega)).2.1 | exact (fs _ (by omega) (by omega)).2.1 | exact (ft _ (by omega) (by omega)).2.1)) (by first | (exact ClL.f5 (by assumption)) | (first | assumption | exact (fw _ (by omega) (by omega)).1 | exact (fs _ (by omega) (by omega)).1 | exact (ft _ (by omega) (by omega)).1)) ?_
      refine x_iload_1 dX5_over_35 ?_
      refine x_aald dX5_over_36 (by first | (exact ClL.k13 (by assumption)) | (first | assumption | exact (fw _ (by omega) (by omega)).2.1 | exact (fs _ (by omega) (by omega)).2.1 | exact (ft _ (by omega) (by omega)).2.1)) (by decide) (by decide) (by first | (exact ClL.r13 (by assumption) (by omega) (by omega)) | (omega)) (by first | (exact ClL.fs (by assumption) (by omega) (by omega)) | (first | assumption | exact (fw _ (by omega) (by omega)).1 | exact (fs _ (by omega) (by omega)).1 | exact (ft _ (by omega) (by omega)).1)) ?_
      refine x_iload4 dX5_over_37 ?_
      refine x_iald_ dX5_over_39 (by first | (exact ClL.ks (by assumption) (by omega) (by omega)) | (first | assumption | exact (fw _ (by omega) (by omega)).2.1 | exact (fs _ (by omega) (by omega)).2.1 | exact (ft _ (by omega) (by omega)).2.1)) (by first | (exact ClL.rs (by assumption) (by omega) (by omega) (by omega) (by omega)) | (omega)) (fun r39 => ?_)
      refine x_aload_0 dX5_over_40 ?_
      refine x_getR dX5_over_41 fl444_5 rfl (by first | (exact ClL.k0 (by assumption)) | (first | assumption | exact (fw _ (by omega) (by omega)).2.1 | exact (fs _ (by omega) (by omega)).2.1 | exact (ft _ (by omega) (by omega)).2.1)) (by first | (exact ClL.f5 (by assumption)) | (first | assumption | exact (fw _ (by omega) (by omega)).1 | exact (fs _ (by omega) (by omega)).1 | exact (ft _ (by omega) (by omega)).1)) ?_
      refine x_iload_2 dX5_over_44 ?_
      refine x_aald dX5_over_45 (by first | (exact ClL.k13 (by assumption)) | (first | assumption | exact (fw _ (by omega) (by omega)).2.1 | exact (fs _ (by omega) (by omega)).2.1 | exact (ft _ (by omega) (by omega)).2.1)) (by decide) (by decide) (by first | (exact ClL.r13 (by assumption) (by omega) (by omega)) | (omega)) (by first | (exact ClL.fs (by assumption) (by omega) (by omega)) | (first | assumption | exact (fw _ (by omega) (by omega)).1 | exact (fs _ (by omega) (by omega)).1 | exact (ft _ (by omega) (by omega)).1)) ?_
      refine x_iload5 dX5_over_46 ?_
      refine x_iald_ dX5_over_48 (by first | (exact ClL.ks (by assumption) (by omega) (by omega)) | (first | assumption | exact (fw _ (by omega) (by omega)).2.1 | exact (fs _ (by omega) (by omega)).2.1 | exact (ft _ (by omega) (by omega)).2.1)) (by first | (exact ClL.rs (by assumption) (by omega) (by omega) (by omega) (by omega)) | (omega)) (fun r48 => ?_)
      refine x_icmp_ne (tgt := 77) dX5_over_49 rfl (by omega) (by omega) (fun c49 => ?_) (fun c49 => ?_)
      · refine x_iconst dX5_over_77 ?_
        refine x_iadd dX5_over_78 ?_
        refine x_istore_3 dX5_over_79 rfl ?_
        refine x_iinc5 dX5_over_80 rfl ?_
        refine x_goto (tgt := 19) dX5_over_83 rfl ?_
        refine ih2 (by omega) _ (by omega) (by omega) ?_
        rw [sumI_s _ g0, hn2]
        unfold ovF
        split <;> omega
      · refine x_aload_0 dX5_over_52 ?_
        refine x_getR dX5_over_53 fl446_5 rfl (by first | (exact ClL.k0 (by assumption)) | (first | assumption | exact (fw _ (by omega) (by omega)).2.1 | exact (fs _ (by omega) (by omega)).2.1 | exact (ft _ (by omega) (by omega)).2.1)) (by first | (exact ClL.f6 (by assumption)) | (first | assumption | exact (fw _ (by omega) (by omega)).1 | exact (fs _ (by omega) (by omega)).1 | exact (ft _ (by omega) (by omega)).1)) ?_
        refine x_iload_1 dX5_over_56 ?_
        refine x_aald dX5_over_57 (by first | (exact ClL.k21 (by assumption)) | (first | assumption | exact (fw _ (by omega) (by omega)).2.1 | exact (fs _ (by omega) (by omega)).2.1 | exact (ft _ (by omega) (by omega)).2.1)) (by decide) (by decide) (by first | (exact ClL.r21 (by assumption) (by omega) (by omega)) | (omega)) (by first | (exact ClL.ft (by assumption) (by omega) (by omega)) | (first | assumption | exact (fw _ (by omega) (by omega)).1 | exact (fs _ (by omega) (by omega)).1 | exact (ft _ (by omega) (by omega)).1)) ?_
        refine x_iload4 dX5_over_58 ?_
        refine x_iald_ dX5_over_60 (by first | (exact ClL.kt (by assumption) (by omega) (by omega)) | (first | assumption | exact (fw _ (by omega) (by omega)).2.1 | exact (fs _ (by omega) (by omega)).2.1 | exact (ft _ (by omega) (by omega)).2.1)) (by first | (exact ClL.rt (by assumption) (by omega) (by omega) (by omega) (by omega)) | (omega)) (fun r60 => ?_)
        refine x_aload_0 dX5_over_61 ?_
        refine x_getR dX5_over_62 fl446_5 rfl (by first | (exact ClL.k0 (by assumption)) | (first | assumption | exact (fw _ (by omega) (by omega)).2.1 | exact (fs _ (by omega) (by omega)).2.1 | exact (ft _ (by omega) (by omega)).2.1)) (by first | (exact ClL.f6 (by assumption)) | (first | assumption | exact (fw _ (by omega) (by omega)).1 | exact (fs _ (by omega) (by omega)).1 | exact (ft _ (by omega) (by omega)).1)) ?_
        refine x_iload_2 dX5_over_65 ?_
        refine x_aald dX5_over_66 (by first | (exact ClL.k21 (by assumption)) | (first | assumption | exact (fw _ (by omega) (by omega)).2.1 | exact (fs _ (by omega) (by omega)).2.1 | exact (ft _ (by omega) (by omega)).2.1)) (by decide) (by decide) (by first | (exact ClL.r21 (by assumption) (by omega) (by omega)) | (omega)) (by first | (exact ClL.ft (by assumption) (by omega) (by omega)) | (first | assumption | exact (fw _ (by omega) (by omega)).1 | exact (fs _ (by omega) (by omega)).1 | exact (ft _ (by omega) (by omega)).1)) ?_
        refine x_iload5 dX5_over_67 ?_
        refine x_iald_ dX5_over_69 (by first | (exact ClL.kt (by assumption) (by omega) (by omega)) | (first | assumption | exact (fw _ (by omega) (by omega)).2.1 | exact (fs _ (by omega) (by omega)).2.1 | exact (ft _ (by omega) (by omega)).2.1)) (by first | (exact ClL.rt (by assumption) (by omega) (by omega) (by omega) (by omega)) | (omega)) (fun r69 => ?_)
        refine x_icmp_le (tgt := 77) dX5_over_70 rfl (by omega) (by omega) (fun c70 => ?_) (fun c70 => ?_)
        · refine x_iconst dX5_over_77 ?_
          refine x_iadd dX5_over_78 ?_
          refine x_istore_3 dX5_over_79 rfl ?_
          refine x_iinc5 dX5_over_80 rfl ?_
          refine x_goto (tgt := 19) dX5_over_83 rfl ?_
          refine ih2 (by omega) _ (by omega) (by omega) ?_
          rw [sumI_s _ g0, hn2]
          unfold ovF
          split <;> omega
        · refine x_iconst dX5_over_73 ?_
          refine x_goto (tgt := 78) dX5_over_74 rfl ?_
          refine x_iadd dX5_over_78 ?_
          refine x_istore_3 dX5_over_79 rfl ?_
          refine x_iinc5 dX5_over_80 rfl ?_
          refine x_goto (tgt := 19) dX5_over_83 rfl ?_
          refine ih2 (by omega) _ (by omega) (by omega) ?_
          rw [sumI_s _ g0, hn2]
          unfold ovF
          split <;> omega
theorem C_X5_lastLaid {m : Int} (hr : RC L h c T S) (hI : RowI T S b q) (hT : TxtI T) (hm : 0 ≤ m ∧ m < 7)
    (k : Q (.inl [aI (if rN S m = 0 then -1 else rT S m (rN S m - 1))]) L h) : am_C G mX5_lastLaid (d + 1) [aR c, aI m] L h Q := by
  have hnb := hr.nb hI hT
  obtain ⟨⟨k0, f0, f1, f2, f3, f4, f5, f6, f10, k1, l1, k2, l2, k3, l3, k4, l4, k5, l5, k13, l13, k21, l21, fw, fs, ft, k29, f29, k30, l30⟩, rn, rx, rk, r7, r8, r9⟩ := hr
  have nm := hnb m hm.1 hm.2
  have em := rn m hm.1 hm.2
  have t1 := (ft m hm.1 hm.2).2.2
  refine x_start okX5_lastLaid rfl rfl rfl rfl ?_
  refine x_aload_0 dX5_lastLaid_0 ?_
  refine x_getR dX5_lastLaid_1 fl435_5 rfl (by first | (exact ClL.k0 (by assumption)) | (first | assumption | exact (fw _ (by omega) (by omega)).2.1 | exact (fs _ (by omega) (by omega)).2.1 | exact (ft _ (by omega) (by omega)).2.1)) (by first | (exact ClL.f2 (by assumption)) | (first | assumption | exact (fw _ (by omega) (by omega)).1 | exact (fs _ (by omega) (by omega)).1 | exact (ft _ (by omega) (by omega)).1)) ?_
  refine x_iload_1 dX5_lastLaid_4 ?_
  refine x_iald_ dX5_lastLaid_5 (by first | (exact ClL.k3 (by assumption)) | (first | assumption | exact (fw _ (by omega) (by omega)).2.1 | exact (fs _ (by omega) (by omega)).2.1 | exact (ft _ (by omega) (by omega)).2.1)) (by first | (exact ClL.r3 (by assumption) (by omega) (by omega)) | (omega)) (fun r5 => ?_)
  refine x_if_ne (tgt := 13) dX5_lastLaid_6 rfl (by omega) (fun c6 => ?_) (fun c6 => ?_)
  · refine x_aload_0 dX5_lastLaid_13 ?_
    refine x_getR dX5_lastLaid_14 fl446_5 rfl (by first | (exact ClL.k0 (by assumption)) | (first | assumption | exact (fw _ (by omega) (by omega)).2.1 | exact (fs _ (by omega) (by omega)).2.1 | exact (ft _ (by omega) (by omega)).2.1)) (by first | (exact ClL.f6 (by assumption)) | (first | assumption | exact (fw _ (by omega) (by omega)).1 | exact (fs _ (by omega) (by omega)).1 | exact (ft _ (by omega) (by omega)).1)) ?_
    refine x_iload_1 dX5_lastLaid_17 ?_
    refine x_aald dX5_lastLaid_18 (by first | (exact ClL.k21 (by assumption)) | (first | assumption | exact (fw _ (by omega) (by omega)).2.1 | exact (fs _ (by omega) (by omega)).2.1 | exact (ft _ (by omega) (by omega)).2.1)) (by decide) (by decide) (by first | (exact ClL.r21 (by assumption) (by omega) (by omega)) | (omega)) (by first | (exact ClL.ft (by assumption) (by omega) (by omega)) | (first | assumption | exact (fw _ (by omega) (by omega)).1 | exact (fs _ (by omega) (by omega)).1 | exact (ft _ (by omega) (by omega)).1)) ?_
    refine x_aload_0 dX5_lastLaid_19 ?_
    refine x_getR dX5_lastLaid_20 fl435_5 rfl (by first | (exact ClL.k0 (by assumption)) | (first | assumption | exact (fw _ (by omega) (by omega)).2.1 | exact (fs _ (by omega) (by omega)).2.1 | exact (ft _ (by omega) (by omega)).2.1)) (by first | (exact ClL.f2 (by assumption)) | (first | assumption | exact (fw _ (by omega) (by omega)).1 | exact (fs _ (by omega) (by omega)).1 | exact (ft _ (by omega) (by omega)).1)) ?_
    refine x_iload_1 dX5_lastLaid_23 ?_
    refine x_iald_ dX5_lastLaid_24 (by first | (exact ClL.k3 (by assumption)) | (first | assumption | exact (fw _ (by omega) (by omega)).2.1 | exact (fs _ (by omega) (by omega)).2.1 | exact (ft _ (by omega) (by omega)).2.1)) (by first | (exact ClL.r3 (by assumption) (by omega) (by omega)) | (omega)) (fun r24 => ?_)
    refine x_iconst dX5_lastLaid_25 ?_
    refine x_isub dX5_lastLaid_26 ?_
    refine x_iald_ dX5_lastLaid_27 (by first | (exact ClL.kt (by assumption) (by omega) (by omega)) | (first | assumption | exact (fw _ (by omega) (by omega)).2.1 | exact (fs _ (by omega) (by omega)).2.1 | exact (ft _ (by omega) (by omega)).2.1)) (by first | (exact ClL.rt (by assumption) (by omega) (by omega) (by omega) (by omega)) | (omega)) (fun r27 => ?_)
    refine x_iret dX5_lastLaid_28 rfl ?_
    rw [em] at c6
    first
    | (rw [if_pos c6] at k; exact k)
    | (rw [if_neg c6] at k
       rw [em, (rk m (rN S m - 1) hm.1 hm.2 (by omega) (by omega)).2.2]
       exact k)
  · refine x_iconst dX5_lastLaid_9 ?_
    refine x_goto (tgt := 28) dX5_lastLaid_10 rfl ?_
    refine x_iret dX5_lastLaid_28 rfl ?_
    rw [em] at c6
    first
    | (rw [if_pos c6] at k; exact k)
    | (rw [if_neg c6] at k
       rw [em, (rk m (rN S m - 1) hm.1 hm.2 (by omega) (by omega)).2.2]
       exact k)
theorem C_X5_pieces (hr : RC L h c T S) (k : Q (.inl [aI (sumI 7 (rN S))]) L h) : am_C G mX5_pieces (d + 1) [aR c] L h Q := by
  obtain ⟨⟨k0, f0, f1, f2, f3, f4, f5, f6, f10, k1, l1, k2, l2, k3, l3, k4, l4, k5, l5, k13, l13, k21, l21, fw, fs, ft, k29, f29, k30, l30⟩, rn, rx, rk, r7, r8, r9⟩ := hr
  refine x_start okX5_pieces rfl rfl rfl rfl ?_
  refine x_iconst dX5_pieces_0 ?_
  refine x_istore_1 dX5_pieces_1 rfl ?_
  refine x_iconst dX5_pieces_2 ?_
  refine x_istore_2 dX5_pieces_3 rfl ?_
  refine x_up1 7 (fun i n => 0 ≤ i → i ≤ 7 → n = sumI i (rN S) → am_X G mX5_pieces (d + 1) 4 [aR c, aI n, aI i] [] L h Q) ?_ 0 0 (by omega) (by omega) rfl
  intro i n ih h0 h1 hn1
  refine x_iload_2 dX5_pieces_4 ?_
  refine x_bipush dX5_pieces_5 rfl ?_
  refine x_icmp_ge (tgt := 25) dX5_pieces_7 rfl (by omega) (by omega) (fun c7 => ?_) (fun c7 => ?_)
  · refine x_iload_1 dX5_pieces_25 ?_
    refine x_iret dX5_pieces_26 rfl ?_
    rw [hn1, show i = 7 by omega]; exact k
  · refine x_iload_1 dX5_pieces_10 ?_
    refine x_aload_0 dX5_pieces_11 ?_
    refine x_getR dX5_pieces_12 fl435_5 rfl (by first | (exact ClL.k0 (by assumption)) | (first | assumption | exact (fw _ (by omega) (by omega)).2.1 | exact (fs _ (by omega) (by omega)).2.1 | exact (ft _ (by omega) (by omega)).2.1)) (by first | (exact ClL.f2 (by assumption)) | (first | assumption | exact (fw _ (by omega) (by omega)).1 | exact (fs _ (by omega) (by omega)).1 | exact (ft _ (by omega) (by omega)).1)) ?_
    refine x_iload_2 dX5_pieces_15 ?_
    refine x_iald_ dX5_pieces_16 (by first | (exact ClL.k3 (by assumption)) | (first | assumption | exact (fw _ (by omega) (by omega)).2.1 | exact (fs _ (by omega) (by omega)).2.1 | exact (ft _ (by omega) (by omega)).2.1)) (by first | (exact ClL.r3 (by assumption) (by omega) (by omega)) | (omega)) (fun r16 => ?_)
    refine x_iadd dX5_pieces_17 ?_
    refine x_istore_1 dX5_pieces_18 rfl ?_
    refine x_iinc2 dX5_pieces_19 rfl ?_
    refine x_goto (tgt := 4) dX5_pieces_22 rfl ?_
    refine ih (by omega) _ (by omega) (by omega) ?_
    rw [sumI_s _ h0, hn1, rn i h0 (by omega)]
theorem bt_cut : (List.range 128).all (fun s => (List.range 7).all (fun m => (List.range 7).all (fun o => decide (bt (bOr (s : Nat) (bShl 1 (m : Nat))) (o : Nat) = if o = m then 1 else bt (s : Nat) (o : Nat))) && decide (0 ≤ bOr (s : Nat) (bShl 1 (m : Nat)) ∧ bOr (s : Nat) (bShl 1 (m : Nat)) < 128))) = true := by decide +kernel
theorem bt_or {s m o : Int} (hs : 0 ≤ s ∧ s < 128) (hm : 0 ≤ m ∧ m < 7) (ho : 0 ≤ o ∧ o < 7) : bt (bOr s (bShl 1 m)) o = (if o = m then 1 else bt s o) ∧ (0 ≤ bOr s (bShl 1 m) ∧ bOr s (bShl 1 m) < 128) := by
  obtain ⟨s, rfl⟩ : ∃ n : Nat, s = n := ⟨s.toNat, by omega⟩
  obtain ⟨m, rfl⟩ : ∃ n : Nat, m = n := ⟨m.toNat, by omega⟩
  obtain ⟨o, rfl⟩ : ∃ n : Nat, o = n := ⟨o.toNat, by omega⟩
  have h1 := List.all_eq_true.mp bt_cut s (List.mem_range.mpr (by omega))
  have h2 := List.all_eq_true.mp h1 m (List.mem_range.mpr (by omega))
  rw [Bool.and_eq_true] at h2
  have h3 := of_decide_eq_true (List.all_eq_true.mp h2.1 o (List.mem_range.mpr (by omega)))
  refine ⟨?_, of_decide_eq_true h2.2⟩
  rw [h3]
  by_cases e : o = m
  · rw [if_pos e, if_pos (by omega)]
  · rw [if_neg e, if_neg (by omega)]
set_option maxHeartbeats 4000000 in
theorem C_X5_cuts {m : Int} (hr : RC L h c T S) (hm : 0 ≤ m ∧ m < tM T) (hT : TxtI T)
    (k : ∀ h', RC L h' c T (cutR S m) → FrC h h' c → Q (.inl [aI (rN S m)]) L h') : am_C G mX5_cuts (d + 1) [aR c, aI m] L h Q := by
  have hr0 := hr
  obtain ⟨⟨k0, f0, f1, f2, f3, f4, f5, f6, f10, k1, l1, k2, l2, k3, l3, k4, l4, k5, l5, k13, l13, k21, l21, fw, fs, ft, k29, f29, k30, l30⟩, rn, rx, rk, r7, r8, r9⟩ := hr
  have hm7 : m < 7 := by have := hT.1; omega
  have en := rn m hm.1 hm7
  refine x_start okX5_cuts rfl rfl rfl rfl ?_
  refine x_aload_0 dX5_cuts_0 ?_
  refine x_getR dX5_cuts_1 fl435_5 rfl (by first | (exact ClL.k0 (by assumption)) | (first | assumption | exact (fw _ (by omega) (by omega)).2.1 | exact (fs _ (by omega) (by omega)).2.1 | exact (ft _ (by omega) (by omega)).2.1)) (by first | (exact ClL.f2 (by assumption)) | (first | assumption | exact (fw _ (by omega) (by omega)).1 | exact (fs _ (by omega) (by omega)).1 | exact (ft _ (by omega) (by omega)).1)) ?_
  refine x_iload_1 dX5_cuts_4 ?_
  refine x_iald_ dX5_cuts_5 (by first | (exact ClL.k3 (by assumption)) | (first | assumption | exact (fw _ (by omega) (by omega)).2.1 | exact (fs _ (by omega) (by omega)).2.1 | exact (ft _ (by omega) (by omega)).2.1)) (by first | (exact ClL.r3 (by assumption) (by omega) (by omega)) | (omega)) (fun r5 => ?_)
  rw [en] at r5 ⊢
  refine x_istore_2 dX5_cuts_6 rfl ?_
  refine x_aload_0 dX5_cuts_7 ?_
  refine x_getR dX5_cuts_8 fl435_5 rfl (by first | (exact ClL.k0 (by assumption)) | (first | assumption | exact (fw _ (by omega) (by omega)).2.1 | exact (fs _ (by omega) (by omega)).2.1 | exact (ft _ (by omega) (by omega)).2.1)) (by first | (exact ClL.f2 (by assumption)) | (first | assumption | exact (fw _ (by omega) (by omega)).1 | exact (fs _ (by omega) (by omega)).1 | exact (ft _ (by omega) (by omega)).1)) ?_
  refine x_iload_1 dX5_cuts_11 ?_
  refine x_iconst dX5_cuts_12 ?_
  refine x_iast_ dX5_cuts_13 (by first | (exact ClL.k3 (by assumption)) | (first | assumption | exact (fw _ (by omega) (by omega)).2.1 | exact (fs _ (by omega) (by omega)).2.1 | exact (ft _ (by omega) (by omega)).2.1)) (by first | (exact ClL.r3 (by assumption) (by omega) (by omega)) | (omega)) (by omega) ?_
  refine x_aload_0 dX5_cuts_14 ?_
  refine x_dup dX5_cuts_15 rfl ?_
  refine x_getI_ dX5_cuts_16 fl447_5 (by first | (exact ClL.k0 (by assumption)) | (first | assumption | exact (fw _ (by omega) (by omega)).2.1 | exact (fs _ (by omega) (by omega)).2.1 | exact (ft _ (by omega) (by omega)).2.1)) (fun r16 => ?_)
  simp (disch := omega) only [am_st_o] at r16 ⊢
  rw [r7] at r16 ⊢
  refine x_iconst dX5_cuts_19 ?_
  refine x_iload_1 dX5_cuts_20 ?_
  refine x_ishl dX5_cuts_21 ?_
  refine x_ior dX5_cuts_22 ?_
  refine x_putI_ dX5_cuts_23 fl447_5 (by first | (exact ClL.k0 (by assumption)) | (first | assumption | exact (fw _ (by omega) (by omega)).2.1 | exact (fs _ (by omega) (by omega)).2.1 | exact (ft _ (by omega) (by omega)).2.1)) (by have := bOr_rg (rL S) (bShl 1 m); omega) ?_
  refine x_iload_2 dX5_cuts_26 ?_
  refine x_iret dX5_cuts_27 rfl ?_
  refine k _ ⟨hr0.1, fun o h0 h1 => ?_, fun o h0 h1 => ?_, fun o j h0 h1 h2 h3 => ?_, ?_, ?_, ?_⟩ ?_
  · have := rn o h0 h1
    simp (disch := omega) only [am_st_o, am_st_at, true_and]
    show _ = up1 (rN S) m 0 o
    unfold up1
    (repeat' split) <;> omega
  · obtain ⟨a1, a2, a3⟩ := rx o h0 h1
    simp (disch := omega) only [am_st_o]
    exact ⟨a1, a2, a3⟩
  · have h3' : j < up1 (rN S) m 0 o := h3
    unfold up1 at h3'
    simp (disch := omega) only [am_st_o]
    refine rk o j h0 h1 h2 ?_
    split at h3' <;> omega
  · simp (disch := omega) only [am_st_s]
    rfl
  · simp (disch := omega) only [am_st_o, am_st_i]
    exact r8
  · simp (disch := omega) only [am_st_o, am_st_i]
    exact r9
  · intro a ha
    simp (disch := omega) only [am_st_o]
end CLOTH2
