/-! CLOTH: its methods -/
set_option maxRecDepth 100000
/-- the layout of a cloth at c: 31 cells -/
def ClL (L : am_L) (c : Int) : Prop :=
  kd L c = 5 ∧ fF L c 0 = c + 1 ∧ fF L c 1 = c + 2 ∧ fF L c 2 = c + 3 ∧ fF L c 3 = c + 4 ∧ fF L c 4 = c + 5 ∧ fF L c 5 = c + 13 ∧ fF L c 6 = c + 21 ∧ fF L c 10 = c + 29 ∧
  kd L (c + 1) = 100 ∧ ln L (c + 1) = 7 ∧ kd L (c + 2) = 100 ∧ ln L (c + 2) = 7 ∧ kd L (c + 3) = 100 ∧ ln L (c + 3) = 7 ∧ kd L (c + 4) = 100 ∧ ln L (c + 4) = 7 ∧
  kd L (c + 5) = 110 ∧ ln L (c + 5) = 7 ∧ kd L (c + 13) = 110 ∧ ln L (c + 13) = 7 ∧ kd L (c + 21) = 110 ∧ ln L (c + 21) = 7 ∧
  (∀ m : Int, 0 ≤ m → m < 7 → fF L (c + 5) m = c + 6 + m ∧ kd L (c + 6 + m) = 100 ∧ ln L (c + 6 + m) = 60) ∧
  (∀ m : Int, 0 ≤ m → m < 7 → fF L (c + 13) m = c + 14 + m ∧ kd L (c + 14 + m) = 100 ∧ ln L (c + 14 + m) = 60) ∧
  (∀ m : Int, 0 ≤ m → m < 7 → fF L (c + 21) m = c + 22 + m ∧ kd L (c + 22 + m) = 100 ∧ ln L (c + 22 + m) = 60) ∧
  kd L (c + 29) = 6 ∧ fF L (c + 29) 0 = c + 30 ∧ kd L (c + 30) = 100 ∧ ln L (c + 30) = 6
/-- how many pieces lie: within the arrays -/
def ClN (h : am_H) (c : Int) : Prop := ∀ m : Int, 0 ≤ m → m < 7 → 0 ≤ h (c + 3) m ∧ h (c + 3) m ≤ 60
theorem ClL.k0 {L : am_L} {c : Int} (h : ClL L c) : kd L c = 5 := h.1
theorem ClL.f0 {L : am_L} {c : Int} (h : ClL L c) : fF L c 0 = c + 1 := h.2.1
theorem ClL.f1 {L : am_L} {c : Int} (h : ClL L c) : fF L c 1 = c + 2 := h.2.2.1
theorem ClL.f2 {L : am_L} {c : Int} (h : ClL L c) : fF L c 2 = c + 3 := h.2.2.2.1
theorem ClL.f3 {L : am_L} {c : Int} (h : ClL L c) : fF L c 3 = c + 4 := h.2.2.2.2.1
theorem ClL.f4 {L : am_L} {c : Int} (h : ClL L c) : fF L c 4 = c + 5 := h.2.2.2.2.2.1
theorem ClL.f5 {L : am_L} {c : Int} (h : ClL L c) : fF L c 5 = c + 13 := h.2.2.2.2.2.2.1
theorem ClL.f6 {L : am_L} {c : Int} (h : ClL L c) : fF L c 6 = c + 21 := h.2.2.2.2.2.2.2.1
theorem ClL.f10 {L : am_L} {c : Int} (h : ClL L c) : fF L c 10 = c + 29 := h.2.2.2.2.2.2.2.2.1
theorem ClL.k1 {L : am_L} {c : Int} (h : ClL L c) : kd L (c + 1) = 100 := h.2.2.2.2.2.2.2.2.2.1
theorem ClL.l1 {L : am_L} {c : Int} (h : ClL L c) : ln L (c + 1) = 7 := h.2.2.2.2.2.2.2.2.2.2.1
theorem ClL.r1 {L : am_L} {c x : Int} (h : ClL L c) (h2 : 0 ≤ x) (h3 : x < 7) : 0 ≤ x ∧ x < ln L (c + 1) := by have := h.l1; omega
theorem ClL.k2 {L : am_L} {c : Int} (h : ClL L c) : kd L (c + 2) = 100 := h.2.2.2.2.2.2.2.2.2.2.2.1
theorem ClL.l2 {L : am_L} {c : Int} (h : ClL L c) : ln L (c + 2) = 7 := h.2.2.2.2.2.2.2.2.2.2.2.2.1
theorem ClL.r2 {L : am_L} {c x : Int} (h : ClL L c) (h2 : 0 ≤ x) (h3 : x < 7) : 0 ≤ x ∧ x < ln L (c + 2) := by have := h.l2; omega
theorem ClL.k3 {L : am_L} {c : Int} (h : ClL L c) : kd L (c + 3) = 100 := h.2.2.2.2.2.2.2.2.2.2.2.2.2.1
theorem ClL.l3 {L : am_L} {c : Int} (h : ClL L c) : ln L (c + 3) = 7 := h.2.2.2.2.2.2.2.2.2.2.2.2.2.2.1
theorem ClL.r3 {L : am_L} {c x : Int} (h : ClL L c) (h2 : 0 ≤ x) (h3 : x < 7) : 0 ≤ x ∧ x < ln L (c + 3) := by have := h.l3; omega
theorem ClL.k4 {L : am_L} {c : Int} (h : ClL L c) : kd L (c + 4) = 100 := h.2.2.2.2.2.2.2.2.2.2.2.2.2.2.2.1
theorem ClL.l4 {L : am_L} {c : Int} (h : ClL L c) : ln L (c + 4) = 7 := h.2.2.2.2.2.2.2.2.2.2.2.2.2.2.2.2.1
theorem ClL.r4 {L : am_L} {c x : Int} (h : ClL L c) (h2 : 0 ≤ x) (h3 : x < 7) : 0 ≤ x ∧ x < ln L (c + 4) := by have := h.l4; omega
theorem ClL.k5 {L : am_L} {c : Int} (h : ClL L c) : kd L (c + 5) = 110 := h.2.2.2.2.2.2.2.2.2.2.2.2.2.2.2.2.2.1
theorem ClL.l5 {L : am_L} {c : Int} (h : ClL L c) : ln L (c + 5) = 7 := h.2.2.2.2.2.2.2.2.2.2.2.2.2.2.2.2.2.2.1
theorem ClL.r5 {L : am_L} {c x : Int} (h : ClL L c) (h2 : 0 ≤ x) (h3 : x < 7) : 0 ≤ x ∧ x < ln L (c + 5) := by have := h.l5; omega
theorem ClL.k13 {L : am_L} {c : Int} (h : ClL L c) : kd L (c + 13) = 110 := h.2.2.2.2.2.2.2.2.2.2.2.2.2.2.2.2.2.2.2.1
theorem ClL.l13 {L : am_L} {c : Int} (h : ClL L c) : ln L (c + 13) = 7 := h.2.2.2.2.2.2.2.2.2.2.2.2.2.2.2.2.2.2.2.2.1
theorem ClL.r13 {L : am_L} {c x : Int} (h : ClL L c) (h2 : 0 ≤ x) (h3 : x < 7) : 0 ≤ x ∧ x < ln L (c + 13) := by have := h.l13; omega
theorem ClL.k21 {L : am_L} {c : Int} (h : ClL L c) : kd L (c + 21) = 110 := h.2.2.2.2.2.2.2.2.2.2.2.2.2.2.2.2.2.2.2.2.2.1
theorem ClL.l21 {L : am_L} {c : Int} (h : ClL L c) : ln L (c + 21) = 7 := h.2.2.2.2.2.2.2.2.2.2.2.2.2.2.2.2.2.2.2.2.2.2.1
theorem ClL.r21 {L : am_L} {c x : Int} (h : ClL L c) (h2 : 0 ≤ x) (h3 : x < 7) : 0 ≤ x ∧ x < ln L (c + 21) := by have := h.l21; omega
theorem ClL.fw {L : am_L} {c m : Int} (h : ClL L c) (h0 : 0 ≤ m) (h1 : m < 7) : fF L (c + 5) m = c + 6 + m := (h.2.2.2.2.2.2.2.2.2.2.2.2.2.2.2.2.2.2.2.2.2.2.2.1 m h0 h1).1
theorem ClL.kw {L : am_L} {c m : Int} (h : ClL L c) (h0 : 0 ≤ m) (h1 : m < 7) : kd L (c + 6 + m) = 100 := (h.2.2.2.2.2.2.2.2.2.2.2.2.2.2.2.2.2.2.2.2.2.2.2.1 m h0 h1).2.1
theorem ClL.rw {L : am_L} {c m x : Int} (h : ClL L c) (h0 : 0 ≤ m) (h1 : m < 7) (h2 : 0 ≤ x) (h3 : x < 60) : 0 ≤ x ∧ x < ln L (c + 6 + m) := by have := (h.2.2.2.2.2.2.2.2.2.2.2.2.2.2.2.2.2.2.2.2.2.2.2.1 m h0 h1).2.2; omega
theorem ClL.lw {L : am_L} {c m : Int} (h : ClL L c) (h0 : 0 ≤ m) (h1 : m < 7) : ln L (c + 6 + m) = 60 := (h.2.2.2.2.2.2.2.2.2.2.2.2.2.2.2.2.2.2.2.2.2.2.2.1 m h0 h1).2.2
theorem ClL.fs {L : am_L} {c m : Int} (h : ClL L c) (h0 : 0 ≤ m) (h1 : m < 7) : fF L (c + 13) m = c + 14 + m := (h.2.2.2.2.2.2.2.2.2.2.2.2.2.2.2.2.2.2.2.2.2.2.2.2.1 m h0 h1).1
theorem ClL.ks {L : am_L} {c m : Int} (h : ClL L c) (h0 : 0 ≤ m) (h1 : m < 7) : kd L (c + 14 + m) = 100 := (h.2.2.2.2.2.2.2.2.2.2.2.2.2.2.2.2.2.2.2.2.2.2.2.2.1 m h0 h1).2.1
theorem ClL.rs {L : am_L} {c m x : Int} (h : ClL L c) (h0 : 0 ≤ m) (h1 : m < 7) (h2 : 0 ≤ x) (h3 : x < 60) : 0 ≤ x ∧ x < ln L (c + 14 + m) := by have := (h.2.2.2.2.2.2.2.2.2.2.2.2.2.2.2.2.2.2.2.2.2.2.2.2.1 m h0 h1).2.2; omega
theorem ClL.ls {L : am_L} {c m : Int} (h : ClL L c) (h0 : 0 ≤ m) (h1 : m < 7) : ln L (c + 14 + m) = 60 := (h.2.2.2.2.2.2.2.2.2.2.2.2.2.2.2.2.2.2.2.2.2.2.2.2.1 m h0 h1).2.2
theorem ClL.ft {L : am_L} {c m : Int} (h : ClL L c) (h0 : 0 ≤ m) (h1 : m < 7) : fF L (c + 21) m = c + 22 + m := (h.2.2.2.2.2.2.2.2.2.2.2.2.2.2.2.2.2.2.2.2.2.2.2.2.2.1 m h0 h1).1
theorem ClL.kt {L : am_L} {c m : Int} (h : ClL L c) (h0 : 0 ≤ m) (h1 : m < 7) : kd L (c + 22 + m) = 100 := (h.2.2.2.2.2.2.2.2.2.2.2.2.2.2.2.2.2.2.2.2.2.2.2.2.2.1 m h0 h1).2.1
theorem ClL.rt {L : am_L} {c m x : Int} (h : ClL L c) (h0 : 0 ≤ m) (h1 : m < 7) (h2 : 0 ≤ x) (h3 : x < 60) : 0 ≤ x ∧ x < ln L (c + 22 + m) := by have := (h.2.2.2.2.2.2.2.2.2.2.2.2.2.2.2.2.2.2.2.2.2.2.2.2.2.1 m h0 h1).2.2; omega
theorem ClL.lt {L : am_L} {c m : Int} (h : ClL L c) (h0 : 0 ≤ m) (h1 : m < 7) : ln L (c + 22 + m) = 60 := (h.2.2.2.2.2.2.2.2.2.2.2.2.2.2.2.2.2.2.2.2.2.2.2.2.2.1 m h0 h1).2.2
theorem ClL.k29 {L : am_L} {c : Int} (h : ClL L c) : kd L (c + 29) = 6 := h.2.2.2.2.2.2.2.2.2.2.2.2.2.2.2.2.2.2.2.2.2.2.2.2.2.2.1
theorem ClL.f29 {L : am_L} {c : Int} (h : ClL L c) : fF L (c + 29) 0 = c + 30 := h.2.2.2.2.2.2.2.2.2.2.2.2.2.2.2.2.2.2.2.2.2.2.2.2.2.2.2.1
theorem ClL.k30 {L : am_L} {c : Int} (h : ClL L c) : kd L (c + 30) = 100 := h.2.2.2.2.2.2.2.2.2.2.2.2.2.2.2.2.2.2.2.2.2.2.2.2.2.2.2.2.1
theorem ClL.l30 {L : am_L} {c : Int} (h : ClL L c) : ln L (c + 30) = 6 := h.2.2.2.2.2.2.2.2.2.2.2.2.2.2.2.2.2.2.2.2.2.2.2.2.2.2.2.2.2
theorem ClL.r30 {L : am_L} {c x : Int} (h : ClL L c) (h2 : 0 ≤ x) (h3 : x < 6) : 0 ≤ x ∧ x < ln L (c + 30) := by have := h.l30; omega
section CLOTH
variable {G : am_G} {d : Nat} {L : am_L} {h : am_H} {Q : am_O → am_L → am_H → Prop}
set_option maxHeartbeats 4000000 in
theorem C_X5_around {c m i ab : Int} (hl : ClL L c) (hn : ClN h c) (hm : 0 ≤ m ∧ m < 7) (hi : 0 ≤ i ∧ i < 60) (hab : 0 ≤ ab ∧ ab ≤ 1)
    (k : Q (.inl [aI (arS 7 (h (c + 3)) (fun o => h (c + 14 + o)) (fun o => h (c + 22 + o)) (h (c + 14 + m) i) (h (c + 22 + m) i) ab)]) L h) : am_C G mX5_around (d + 1) [aR c, aI m, aI i, aI ab] L h Q := by
  obtain ⟨k0, f0, f1, f2, f3, f4, f5, f6, f10, k1, l1, k2, l2, k3, l3, k4, l4, k5, l5, k13, l13, k21, l21, fw, fs, ft, k29, f29, k30, l30⟩ := hl
  have lsm := (fs m hm.1 hm.2).2.2
  have ltm := (ft m hm.1 hm.2).2.2
  refine x_start okX5_around rfl rfl rfl rfl ?_
  refine x_iconst dX5_around_0 ?_
  refine x_istore4 dX5_around_1 rfl ?_
  refine x_iconst dX5_around_3 ?_
  refine x_istore5 dX5_around_4 rfl ?_
  skip
  refine x_up2 7 (fun o n w => 0 ≤ o → o ≤ 7 → n = arS o (h (c + 3)) (fun o => h (c + 14 + o)) (fun o => h (c + 22 + o)) (h (c + 14 + m) i) (h (c + 22 + m) i) ab → am_X G mX5_around (d + 1) 6 [aR c, aI m, aI i, aI ab, aI n, aI o, w] [] L h Q) ?_ 0 0 aU (by omega) (by omega) rfl
  intro o n w ih h0 h1 hn1
  refine x_iload5 dX5_around_6 ?_
  refine x_bipush dX5_around_8 rfl ?_
  refine x_icmp_ge (tgt := 120) dX5_around_10 rfl (by omega) (by omega) (fun c10 => ?_) (fun c10 => ?_)
  · refine x_iload4 dX5_around_120 ?_
    refine x_iret dX5_around_122 rfl ?_
    rw [hn1, show o = 7 by omega]; exact k
  · refine x_iconst dX5_around_13 ?_
    refine x_istore6 dX5_around_14 rfl ?_
    have ho : o < 7 := by omega
    have hno := hn o h0 ho
    have lso := (fs o h0 ho).2.2
    have lto := (ft o h0 ho).2.2
    refine x_up1 (h (c + 3) o) (fun j n' => 0 ≤ j → j ≤ h (c + 3) o → n' = n + sumI j (arF (fun o => h (c + 14 + o)) (fun o => h (c + 22 + o)) (h (c + 14 + m) i) (h (c + 22 + m) i) ab o) → am_X G mX5_around (d + 1) 16 [aR c, aI m, aI i, aI ab, aI n', aI o, aI j] [] L h Q) ?_ 0 n (by omega) (by omega) (by rw [sumI_0]; omega)
    intro j n' ih2 g0 g1 hn2
    refine x_iload6 dX5_around_16 ?_
    refine x_aload_0 dX5_around_18 ?_
    refine x_getR dX5_around_19 fl435_5 rfl (by first | (exact ClL.k0 (by assumption)) | (first | assumption | exact (fw _ (by omega) (by omega)).2.1 | exact (fs _ (by omega) (by omega)).2.1 | exact (ft _ (by omega) (by omega)).2.1)) (by first | (exact ClL.f2 (by assumption)) | (first | assumption | exact (fw _ (by omega) (by omega)).1 | exact (fs _ (by omega) (by omega)).1 | exact (ft _ (by omega) (by omega)).1)) ?_
    refine x_iload5 dX5_around_22 ?_
    refine x_iald_ dX5_around_24 (by first | (exact ClL.k3 (by assumption)) | (first | assumption | exact (fw _ (by omega) (by omega)).2.1 | exact (fs _ (by omega) (by omega)).2.1 | exact (ft _ (by omega) (by omega)).2.1)) (by first | (exact ClL.r3 (by assumption) (by omega) (by omega)) | (omega)) (fun r24 => ?_)
    refine x_icmp_ge (tgt := 114) dX5_around_25 rfl (by omega) (by omega) (fun c25 => ?_) (fun c25 => ?_)
    · refine x_iinc5 dX5_around_114 rfl ?_
      refine x_goto (tgt := 6) dX5_around_117 rfl ?_
      refine ih ho _ _ (by omega) (by omega) ?_
      rw [hn2, hn1, show j = h (c + 3) o by omega]
      exact (sumI_s _ h0).symm
    · refine x_iload4 dX5_around_28 ?_
      refine x_aload_0 dX5_around_30 ?_
      refine x_getR dX5_around_31 fl444_5 rfl (by first | (exact ClL.k0 (by assumption)) | (first | assumption | exact (fw _ (by omega) (by omega)).2.1 | exact (fs _ (by omega) (by omega)).2.1 | exact (ft _ (by omega) (by omega)).2.1)) (by first | (exact ClL.f5 (by assumption)) | (first | assumption | exact (fw _ (by omega) (by omega)).1 | exact (fs _ (by omega) (by omega)).1 | exact (ft _ (by omega) (by omega)).1)) ?_
      refine x_iload5 dX5_around_34 ?_
      refine x_aald dX5_around_36 (by first | (exact ClL.k13 (by assumption)) | (first | assumption | exact (fw _ (by omega) (by omega)).2.1 | exact (fs _ (by omega) (by omega)).2.1 | exact (ft _ (by omega) (by omega)).2.1)) (by decide) (by decide) (by first | (exact ClL.r13 (by assumption) (by omega) (by omega)) | (omega)) (by first | (exact ClL.fs (by assumption) (by omega) (by omega)) | (first | assumption | exact (fw _ (by omega) (by omega)).1 | exact (fs _ (by omega) (by omega)).1 | exact (ft _ (by omega) (by omega)).1)) ?_
      refine x_iload6 dX5_around_37 ?_
      refine x_iald_ dX5_around_39 (by first | (exact ClL.ks (by assumption) (by omega) (by omega)) | (first | assumption | exact (fw _ (by omega) (by omega)).2.1 | exact (fs _ (by omega) (by omega)).2.1 | exact (ft _ (by omega) (by omega)).2.1)) (by first | (exact ClL.rs (by assumption) (by omega) (by omega) (by omega) (by omega)) | (omega)) (fun r39 => ?_)
      refine x_aload_0 dX5_around_40 ?_
      refine x_getR dX5_around_41 fl444_5 rfl (by first | (exact ClL.k0 (by assumption)) | (first | assumption | exact (fw _ (by omega) (by omega)).2.1 | exact (fs _ (by omega) (by omega)).2.1 | exact (ft _ (by omega) (by omega)).2.1)) (by first | (exact ClL.f5 (by assumption)) | (first | assumption | exact (fw _ (by omega) (by omega)).1 | exact (fs _ (by omega) (by omega)).1 | exact (ft _ (by omega) (by omega)).1)) ?_
      refine x_iload_1 dX5_around_44 ?_
      refine x_aald dX5_around_45 (by first | (exact ClL.k13 (by assumption)) | (first | assumption | exact (fw _ (by omega) (by omega)).2.1 | exact (fs _ (by omega) (by omega)).2.1 | exact (ft _ (by omega) (by omega)).2.1)) (by decide) (by decide) (by first | (exact ClL.r13 (by assumption) (by omega) (by omega)) | (omega)) (by first | (exact ClL.fs (by assumption) (by omega) (by omega)) | (first | assumption | exact (fw _ (by omega) (by omega)).1 | exact (fs _ (by omega) (by omega)).1 | exact (ft _ (by omega) (by omega)).1)) ?_
      refine x_iload_2 dX5_around_46 ?_
      refine x_iald_ dX5_around_47 (by first | (exact ClL.ks (by assumption) (by omega) (by omega)) | (first | assumption | exact (fw _ (by omega) (by omega)).2.1 | exact (fs _ (by omega) (by omega)).2.1 | exact (ft _ (by omega) (by omega)).2.1)) (by first | (exact ClL.rs (by assumption) (by omega) (by omega) (by omega) (by omega)) | (omega)) (fun r47 => ?_)
      refine x_icmp_ne (tgt := 104) dX5_around_48 rfl (by omega) (by omega) (fun c48 => ?_) (fun c48 => ?_)
      · refine x_iconst dX5_around_104 ?_
        refine x_iadd dX5_around_105 ?_
        refine x_istore4 dX5_around_106 rfl ?_
        refine x_iinc6 dX5_around_108 rfl ?_
        refine x_goto (tgt := 16) dX5_around_111 rfl ?_
        refine ih2 (by omega) _ (by omega) (by omega) ?_
        rw [sumI_s _ g0, hn2]
        simp only [arF]
        split <;> omega
      · refine x_iload_3 dX5_around_51 ?_
        refine x_if_eq (tgt := 79) dX5_around_52 rfl (by omega) (fun c52 => ?_) (fun c52 => ?_)
        · refine x_aload_0 dX5_around_79 ?_
          refine x_getR dX5_around_80 fl446_5 rfl (by first | (exact ClL.k0 (by assumption)) | (first | assumption | exact (fw _ (by omega) (by omega)).2.1 | exact (fs _ (by omega) (by omega)).2.1 | exact (ft _ (by omega) (by omega)).2.1)) (by first | (exact ClL.f6 (by assumption)) | (first | assumption | exact (fw _ (by omega) (by omega)).1 | exact (fs _ (by omega) (by omega)).1 | exact (ft _ (by omega) (by omega)).1)) ?_
          refine x_iload5 dX5_around_83 ?_
          refine x_aald dX5_around_85 (by first | (exact ClL.k21 (by assumption)) | (first | assumption | exact (fw _ (by omega) (by omega)).2.1 | exact (fs _ (by omega) (by omega)).2.1 | exact (ft _ (by omega) (by omega)).2.1)) (by decide) (by decide) (by first | (exact ClL.r21 (by assumption) (by omega) (by omega)) | (omega)) (by first | (exact ClL.ft (by assumption) (by omega) (by omega)) | (first | assumption | exact (fw _ (by omega) (by omega)).1 | exact (fs _ (by omega) (by omega)).1 | exact (ft _ (by omega) (by omega)).1)) ?_
          refine x_iload6 dX5_around_86 ?_
          refine x_iald_ dX5_around_88 (by first | (exact ClL.kt (by assumption) (by omega) (by omega)) | (first | assumption | exact (fw _ (by omega) (by omega)).2.1 | exact (fs _ (by omega) (by omega)).2.1 | exact (ft _ (by omega) (by omega)).2.1)) (by first | (exact ClL.rt (by assumption) (by omega) (by omega) (by omega) (by omega)) | (omega)) (fun r88 => ?_)
          refine x_aload_0 dX5_around_89 ?_
          refine x_getR dX5_around_90 fl446_5 rfl (by first | (exact ClL.k0 (by assumption)) | (first | assumption | exact (fw _ (by omega) (by omega)).2.1 | exact (fs _ (by omega) (by omega)).2.1 | exact (ft _ (by omega) (by omega)).2.1)) (by first | (exact ClL.f6 (by assumption)) | (first | assumption | exact (fw _ (by omega) (by omega)).1 | exact (fs _ (by omega) (by omega)).1 | exact (ft _ (by omega) (by omega)).1)) ?_
          refine x_iload_1 dX5_around_93 ?_
          refine x_aald dX5_around_94 (by first | (exact ClL.k21 (by assumption)) | (first | assumption | exact (fw _ (by omega) (by omega)).2.1 | exact (fs _ (by omega) (by omega)).2.1 | exact (ft _ (by omega) (by omega)).2.1)) (by decide) (by decide) (by first | (exact ClL.r21 (by assumption) (by omega) (by omega)) | (omega)) (by first | (exact ClL.ft (by assumption) (by omega) (by omega)) | (first | assumption | exact (fw _ (by omega) (by omega)).1 | exact (fs _ (by omega) (by omega)).1 | exact (ft _ (by omega) (by omega)).1)) ?_
          refine x_iload_2 dX5_around_95 ?_
          refine x_iald_ dX5_around_96 (by first | (exact ClL.kt (by assumption) (by omega) (by omega)) | (first | assumption | exact (fw _ (by omega) (by omega)).2.1 | exact (fs _ (by omega) (by omega)).2.1 | exact (ft _ (by omega) (by omega)).2.1)) (by first | (exact ClL.rt (by assumption) (by omega) (by omega) (by omega) (by omega)) | (omega)) (fun r96 => ?_)
          refine x_icmp_ge (tgt := 104) dX5_around_97 rfl (by omega) (by omega) (fun c97 => ?_) (fun c97 => ?_)
          · refine x_iconst dX5_around_104 ?_
            refine x_iadd dX5_around_105 ?_
            refine x_istore4 dX5_around_106 rfl ?_
            refine x_iinc6 dX5_around_108 rfl ?_
            refine x_goto (tgt := 16) dX5_around_111 rfl ?_
            refine ih2 (by omega) _ (by omega) (by omega) ?_
            rw [sumI_s _ g0, hn2]
            simp only [arF]
            split <;> omega
          · refine x_iconst dX5_around_100 ?_
            refine x_goto (tgt := 105) dX5_around_101 rfl ?_
            refine x_iadd dX5_around_105 ?_
            refine x_istore4 dX5_around_106 rfl ?_
            refine x_iinc6 dX5_around_108 rfl ?_
            refine x_goto (tgt := 16) dX5_around_111 rfl ?_
            refine ih2 (by omega) _ (by omega) (by omega) ?_
            rw [sumI_s _ g0, hn2]
            simp only [arF]
            split <;> omega
        · refine x_aload_0 dX5_around_55 ?_
          refine x_getR dX5_around_56 fl446_5 rfl (by first | (exact ClL.k0 (by assumption)) | (first | assumption | exact (fw _ (by omega) (by omega)).2.1 | exact (fs _ (by omega) (by omega)).2.1 | exact (ft _ (by omega) (by omega)).2.1)) (by first | (exact ClL.f6 (by assumption)) | (first | assumption | exact (fw _ (by omega) (by omega)).1 | exact (fs _ (by omega) (by omega)).1 | exact (ft _ (by omega) (by omega)).1)) ?_
          refine x_iload5 dX5_around_59 ?_
          refine x_aald dX5_around_61 (by first | (exact ClL.k21 (by assumption)) | (first | assumption | exact (fw _ (by omega) (by omega)).2.1 | exact (fs _ (by omega) (by omega)).2.1 | exact (ft _ (by omega) (by omega)).2.1)) (by decide) (by decide) (by first | (exact ClL.r21 (by assumption) (by omega) (by omega)) | (omega)) (by first | (exact ClL.ft (by assumption) (by omega) (by omega)) | (first | assumption | exact (fw _ (by omega) (by omega)).1 | exact (fs _ (by omega) (by omega)).1 | exact (ft _ (by omega) (by omega)).1)) ?_
          refine x_iload6 dX5_around_62 ?_
          refine x_iald_ dX5_around_64 (by first | (exact ClL.kt (by assumption) (by omega) (by omega)) | (first | assumption | exact (fw _ (by omega) (by omega)).2.1 | exact (fs _ (by omega) (by omega)).2.1 | exact (ft _ (by omega) (by omega)).2.1)) (by first | (exact ClL.rt (by assumption) (by omega) (by omega) (by omega) (by omega)) | (omega)) (fun r64 => ?_)
          refine x_aload_0 dX5_around_65 ?_
          refine x_getR dX5_around_66 fl446_5 rfl (by first | (exact ClL.k0 (by assumption)) | (first | assumption | exact (fw _ (by omega) (by omega)).2.1 | exact (fs _ (by omega) (by omega)).2.1 | exact (ft _ (by omega) (by omega)).2.1)) (by first | (exact ClL.f6 (by assumption)) | (first | assumption | exact (fw _ (by omega) (by omega)).1 | exact (fs _ (by omega) (by omega)).1 | exact (ft _ (by omega) (by omega)).1)) ?_
          refine x_iload_1 dX5_around_69 ?_
          refine x_aald dX5_around_70 (by first | (exact ClL.k21 (by assumption)) | (first | assumption | exact (fw _ (by omega) (by omega)).2.1 | exact (fs _ (by omega) (by omega)).2.1 | exact (ft _ (by omega) (by omega)).2.1)) (by decide) (by decide) (by first | (exact ClL.r21 (by assumption) (by omega) (by omega)) | (omega)) (by first | (exact ClL.ft (by assumption) (by omega) (by omega)) | (first | assumption | exact (fw _ (by omega) (by omega)).1 | exact (fs _ (by omega) (by omega)).1 | exact (ft _ (by omega) (by omega)).1)) ?_
          refine x_iload_2 dX5_around_71 ?_
          refine x_iald_ dX5_around_72 (by first | (exact ClL.kt (by assumption) (by omega) (by omega)) | (first | assumption | exact (fw _ (by omega) (by omega)).2.1 | exact (fs _ (by omega) (by omega)).2.1 | exact (ft _ (by omega) (by omega)).2.1)) (by first | (exact ClL.rt (by assumption) (by omega) (by omega) (by omega) (by omega)) | (omega)) (fun r72 => ?_)
          refine x_icmp_le (tgt := 104) dX5_around_73 rfl (by omega) (by omega) (fun c73 => ?_) (fun c73 => ?_)
          · refine x_iconst dX5_around_104 ?_
            refine x_iadd dX5_around_105 ?_
            refine x_istore4 dX5_around_106 rfl ?_
            refine x_iinc6 dX5_around_108 rfl ?_
            refine x_goto (tgt := 16) dX5_around_111 rfl ?_
            refine ih2 (by omega) _ (by omega) (by omega) ?_
            rw [sumI_s _ g0, hn2]
            simp only [arF]
            split <;> omega
          · refine x_goto (tgt := 100) dX5_around_76 rfl ?_
            refine x_iconst dX5_around_100 ?_
            refine x_goto (tgt := 105) dX5_around_101 rfl ?_
            refine x_iadd dX5_around_105 ?_
            refine x_istore4 dX5_around_106 rfl ?_
            refine x_iinc6 dX5_around_108 rfl ?_
            refine x_goto (tgt := 16) dX5_around_111 rfl ?_
            refine ih2 (by omega) _ (by omega) (by omega) ?_
            rw [sumI_s _ g0, hn2]
            simp only [arF]
            split <;> omega
end CLOTH
