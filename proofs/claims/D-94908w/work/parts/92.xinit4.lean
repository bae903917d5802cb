/-! WHAT STAYS while the object at x is filled in: its fields below J, and all other cells below c -/
set_option maxRecDepth 100000
def LX (L L' : am_L) (c J x : Int) : Prop := (∀ a, a < c → a ≠ x → kd L' a = kd L a ∧ ln L' a = ln L a ∧ ∀ j, fF L' a j = fF L a j) ∧ kd L' x = kd L x ∧ ln L' x = ln L x ∧ ∀ j, j < J → fF L' x j = fF L x j
section LXS
variable {L L1 L2 : am_L} {c c' J J' x b j v : Int}
theorem LX.rf (L : am_L) (c J x : Int) : LX L L c J x := ⟨fun _ _ _ => ⟨rfl, rfl, fun _ => rfl⟩, rfl, rfl, fun _ _ => rfl⟩
theorem LX.tr (a : LX L L1 c J x) (b : LX L1 L2 c' J' x) (h : c ≤ c') (h2 : J ≤ J') : LX L L2 c J x :=
  ⟨fun y z w => ⟨(b.1 y (by omega) w).1.trans (a.1 y z w).1, (b.1 y (by omega) w).2.1.trans (a.1 y z w).2.1, fun j => ((b.1 y (by omega) w).2.2 j).trans ((a.1 y z w).2.2 j)⟩, b.2.1.trans a.2.1, b.2.2.1.trans a.2.2.1, fun j hj => (b.2.2.2 j (by omega)).trans (a.2.2.2 j hj)⟩
theorem LX.lb (a : LX L L1 c J x) (b : LB L1 L2 c') (h : c ≤ c') (hx : x < c') : LX L L2 c J x :=
  ⟨fun y z w => ⟨(b y (by omega)).1.trans (a.1 y z w).1, (b y (by omega)).2.1.trans (a.1 y z w).2.1, fun j => ((b y (by omega)).2.2 j).trans ((a.1 y z w).2.2 j)⟩, (b x hx).1.trans a.2.1, (b x hx).2.1.trans a.2.2.1, fun j hj => ((b x hx).2.2 j).trans (a.2.2.2 j hj)⟩
theorem LX.al (a : LX L L1 c J x) {k : Nat} {n : Int} (h : c ≤ nx L1) (hx : x < nx L1) : LX L (am_al L1 k n) c J x := a.lb ((LB.rf L1 (nx L1)).al (Int.le_refl _)) h hx
theorem LX.m2 (a : LX L L1 c J x) {n k : Int} (h : c ≤ nx L1) (hx : x < nx L1) : LX L (am_m2 L1 n k) c J x := a.lb ((LB.rf L1 (nx L1)).m2 (Int.le_refl _)) h hx
theorem LX.m3 (a : LX L L1 c J x) (h : c ≤ nx L1) (hx : x < nx L1) : LX L (am_m3 L1) c J x := a.lb (fun y z => m3_old y z) h hx
theorem LX.px (a : LX L L1 c J x) (h : J ≤ j) : LX L (am_pf L1 x j v) c J x :=
  ⟨fun y z w => ⟨(a.1 y z w).1, (a.1 y z w).2.1, fun i => by rw [fF_pf, if_neg (fun q => w q.1)]; exact (a.1 y z w).2.2 i⟩, a.2.1, a.2.2.1, fun i hi => by rw [fF_pf, if_neg (by omega)]; exact a.2.2.2 i hi⟩
theorem LX.pf (a : LX L L1 c J x) (h : c ≤ b) (hx : b ≠ x) : LX L (am_pf L1 b j v) c J x :=
  ⟨fun y z w => ⟨(a.1 y z w).1, (a.1 y z w).2.1, fun i => by rw [fF_pf, if_neg (by omega)]; exact (a.1 y z w).2.2 i⟩, a.2.1, a.2.2.1, fun i hi => by rw [fF_pf, if_neg (by omega)]; exact a.2.2.2 i hi⟩
theorem LX.up (a : LX L L1 c J x) (h : c' ≤ c) (h2 : J' ≤ J) : LX L L1 c' J' x := ⟨fun y z w => a.1 y (by omega) w, a.2.1, a.2.2.1, fun i hi => a.2.2.2 i (by omega)⟩
theorem ClL.lx (r : ClL L b) (a : LX L L1 c J x) (h : b + 31 ≤ c) (hx : x < b ∨ b + 31 ≤ x) : ClL L1 b := by
  have g : ∀ i, 0 ≤ i → i < 31 → kd L1 (b + i) = kd L (b + i) ∧ ln L1 (b + i) = ln L (b + i) ∧ ∀ j, fF L1 (b + i) j = fF L (b + i) j := fun i z0 z1 => a.1 (b + i) (by omega) (by omega)
  have g0 : kd L1 b = kd L b ∧ ln L1 b = ln L b ∧ ∀ j, fF L1 b j = fF L b j := a.1 b (by omega) (by omega)
  obtain ⟨r1, r2, r3, r4, r5, r6, r7, r8, r9, s1, s2, s3, s4, s5, s6, s7, s8, s9, s10, s11, s12, s13, s14, q1, q2, q3, t1, t2, t3, t4⟩ := r
  refine ⟨by rw [g0.1]; exact r1, by rw [g0.2.2]; exact r2, by rw [g0.2.2]; exact r3, by rw [g0.2.2]; exact r4, by rw [g0.2.2]; exact r5, by rw [g0.2.2]; exact r6, by rw [g0.2.2]; exact r7, by rw [g0.2.2]; exact r8, by rw [g0.2.2]; exact r9,
    by rw [(g 1 (by omega) (by omega)).1]; exact s1, by rw [(g 1 (by omega) (by omega)).2.1]; exact s2, by rw [(g 2 (by omega) (by omega)).1]; exact s3, by rw [(g 2 (by omega) (by omega)).2.1]; exact s4, by rw [(g 3 (by omega) (by omega)).1]; exact s5, by rw [(g 3 (by omega) (by omega)).2.1]; exact s6, by rw [(g 4 (by omega) (by omega)).1]; exact s7, by rw [(g 4 (by omega) (by omega)).2.1]; exact s8,
    by rw [(g 5 (by omega) (by omega)).1]; exact s9, by rw [(g 5 (by omega) (by omega)).2.1]; exact s10, by rw [(g 13 (by omega) (by omega)).1]; exact s11, by rw [(g 13 (by omega) (by omega)).2.1]; exact s12, by rw [(g 21 (by omega) (by omega)).1]; exact s13, by rw [(g 21 (by omega) (by omega)).2.1]; exact s14,
    fun m z0 z1 => ?_, fun m z0 z1 => ?_, fun m z0 z1 => ?_, by rw [(g 29 (by omega) (by omega)).1]; exact t1, by rw [(g 29 (by omega) (by omega)).2.2]; exact t2, by rw [(g 30 (by omega) (by omega)).1]; exact t3, by rw [(g 30 (by omega) (by omega)).2.1]; exact t4⟩
  · have e := g (6 + m) (by omega) (by omega)
    rw [← Int.add_assoc] at e
    rw [(g 5 (by omega) (by omega)).2.2, e.1, e.2.1]
    exact q1 m z0 z1
  · have e := g (14 + m) (by omega) (by omega)
    rw [← Int.add_assoc] at e
    rw [(g 13 (by omega) (by omega)).2.2, e.1, e.2.1]
    exact q2 m z0 z1
  · have e := g (22 + m) (by omega) (by omega)
    rw [← Int.add_assoc] at e
    rw [(g 21 (by omega) (by omega)).2.2, e.1, e.2.1]
    exact q3 m z0 z1
end LXS
section XGEN
variable {G : am_G} {M : am_M} {d pc : Nat} {ls st : List AV} {L : am_L} {h : am_H} {Q : am_O → am_L → am_H → Prop} {x J : Int}
/-- a new array in a field of the object at x -/
theorem x_arr {k : Nat} {n j : Int} (kx : kd L x = 0) (hx : x < nx L) (kk : ∀ L', nx L' = nx L + 1 → us L' = us L + n → kd L' x = 0 → (kd L' (nx L) = k ∧ ln L' (nx L) = n ∧ fF L' x j = nx L) → LX L L' (nx L) j x → am_X G M d pc ls st L' h Q) : am_X G M d pc ls st (am_pf (am_al L k n) x j (nx L)) h Q := by
  refine kk _ ?_ ?_ ?_ ⟨?_, ?_, ?_⟩ ?_
  · rw [nx_pf, nx_al]
  · rw [us_pf, us_al]
  · rw [kd_pf, kd_al, if_neg (by omega)]
    exact kx
  · rw [kd_pf, kd_al, if_pos rfl]
  · rw [ln_pf, ln_al, if_pos rfl]
  · rw [fF_pf, if_pos ⟨rfl, rfl⟩]
  · exact ((LX.rf L (nx L) j x).al (Int.le_refl _) hx).px (Int.le_refl _)
/-- a made cloth in a field of the object at x -/
theorem x_clo {L1 : am_L} {k : Nat} {n j : Int} (kx : kd L x = 0) (hx : x < nx L) (hC : ClL L1 (nx L)) (hn : nx L1 = nx L + 31) (hu : us L1 = us L + 1328) (hl : LB (am_al L k n) L1 (nx L)) (kk : ∀ L', nx L' = nx L + 31 → us L' = us L + 1328 → kd L' x = 0 → (ClL L' (nx L) ∧ fF L' x j = nx L) → LX L L' (nx L) j x → am_X G M d pc ls st L' h Q) : am_X G M d pc ls st (am_pf L1 x j (nx L)) h Q := by
  have r1 : LX L L1 (nx L) j x := ((LX.rf L (nx L) j x).al (Int.le_refl _) hx).lb hl (Int.le_refl _) hx
  refine kk _ ?_ ?_ ?_ ⟨?_, ?_⟩ ?_
  · rw [nx_pf, hn]
  · rw [us_pf, hu]
  · rw [kd_pf, r1.2.1]
    exact kx
  · exact hC.lx ((LX.rf L1 (nx L + 31) j x).px (Int.le_refl _)) (by omega) (by omega)
  · rw [fF_pf, if_pos ⟨rfl, rfl⟩]
  · exact r1.px (Int.le_refl _)
end XGEN
