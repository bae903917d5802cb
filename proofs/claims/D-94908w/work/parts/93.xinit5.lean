/-! STAGES OF THREADTOWN'S CONSTRUCTOR -/
set_option maxRecDepth 100000
section XINIT5
variable {L L1 : am_L} {b c J x : Int}
theorem TkN.lx (r : TkN L b) (a : LX L L1 c J x) (h : b + 7 ≤ c) (hx : x < b ∨ b + 7 ≤ x) : TkN L1 b := by
  have g : ∀ i, 0 ≤ i → i < 7 → kd L1 (b + i) = kd L (b + i) ∧ ln L1 (b + i) = ln L (b + i) ∧ ∀ j, fF L1 (b + i) j = fF L (b + i) j := fun i z0 z1 => a.1 (b + i) (by omega) (by omega)
  have g0 : kd L1 b = kd L b ∧ ln L1 b = ln L b ∧ ∀ j, fF L1 b j = fF L b j := a.1 b (by omega) (by omega)
  obtain ⟨r1, r2, r3, r4, r5, r6, r7, s1, s2, s3, s4, s5, s6, s7, s8, s9, s10, s11, s12, q⟩ := r
  refine ⟨by rw [g0.1]; exact r1, by rw [g0.2.2]; exact r2, by rw [g0.2.2]; exact r3, by rw [g0.2.2]; exact r4, by rw [g0.2.2]; exact r5, by rw [g0.2.2]; exact r6, by rw [g0.2.2]; exact r7,
    by rw [(g 1 (by omega) (by omega)).1]; exact s1, by rw [(g 1 (by omega) (by omega)).2.1]; exact s2, by rw [(g 2 (by omega) (by omega)).1]; exact s3, by rw [(g 2 (by omega) (by omega)).2.1]; exact s4, by rw [(g 3 (by omega) (by omega)).1]; exact s5, by rw [(g 3 (by omega) (by omega)).2.1]; exact s6, by rw [(g 4 (by omega) (by omega)).1]; exact s7, by rw [(g 4 (by omega) (by omega)).2.1]; exact s8,
    by rw [(g 5 (by omega) (by omega)).1]; exact s9, by rw [(g 5 (by omega) (by omega)).2.1]; exact s10, by rw [(g 6 (by omega) (by omega)).1]; exact s11, by rw [(g 6 (by omega) (by omega)).2.1]; exact s12, fun w z0 z1 => by rw [(g 1 (by omega) (by omega)).2.2]; exact q w z0 z1⟩
theorem TxN.lx (r : TxN L b) (a : LX L L1 c J x) (h : b + 7 ≤ c) (hx : x < b ∨ b + 7 ≤ x) : TxN L1 b := by
  have g : ∀ i, 0 ≤ i → i < 7 → kd L1 (b + i) = kd L (b + i) ∧ ln L1 (b + i) = ln L (b + i) ∧ ∀ j, fF L1 (b + i) j = fF L (b + i) j := fun i z0 z1 => a.1 (b + i) (by omega) (by omega)
  have g0 : kd L1 b = kd L b ∧ ln L1 b = ln L b ∧ ∀ j, fF L1 b j = fF L b j := a.1 b (by omega) (by omega)
  obtain ⟨r1, r2, r3, r4, r5, r6, r7, r8, r9, r10, r11, r12, r13, s1, s2, s3, s4, s5, s6, s7, s8, s9, s10, s11, s12, s13, s14⟩ := r
  exact ⟨by rw [g0.1]; exact r1, by rw [g0.2.2]; exact r2, by rw [g0.2.2]; exact r3, by rw [g0.2.2]; exact r4, by rw [g0.2.2]; exact r5, by rw [g0.2.2]; exact r6, by rw [g0.2.2]; exact r7, by rw [g0.2.2]; exact r8, by rw [g0.2.2]; exact r9, by rw [g0.2.2]; exact r10, by rw [g0.2.2]; exact r11, by rw [g0.2.2]; exact r12, by rw [g0.2.2]; exact r13,
    by rw [(g 1 (by omega) (by omega)).1]; exact s1, by rw [(g 1 (by omega) (by omega)).2.2]; exact s2, by rw [(g 1 (by omega) (by omega)).2.2]; exact s3, by rw [(g 1 (by omega) (by omega)).2.2]; exact s4, by rw [(g 2 (by omega) (by omega)).1]; exact s5, by rw [(g 2 (by omega) (by omega)).2.1]; exact s6, by rw [(g 3 (by omega) (by omega)).1]; exact s7, by rw [(g 3 (by omega) (by omega)).2.1]; exact s8,
    by rw [(g 4 (by omega) (by omega)).1]; exact s9, by rw [(g 4 (by omega) (by omega)).2.1]; exact s10, by rw [(g 5 (by omega) (by omega)).1]; exact s11, by rw [(g 5 (by omega) (by omega)).2.1]; exact s12, by rw [(g 6 (by omega) (by omega)).1]; exact s13, by rw [(g 6 (by omega) (by omega)).2.1]; exact s14⟩
end XINIT5
section XGEN5
variable {G : am_G} {M : am_M} {d pc : Nat} {ls st : List AV} {L : am_L} {h : am_H} {Q : am_O → am_L → am_H → Prop} {x J : Int}
/-- a new array at c in the field j of the object at x -/
theorem y_arr {k : Nat} {n j : Int} (c c' U U' : Int) (hc : nx L = c) (hu : us L = U) (kx : kd L x = 0) (hx : x < c) (hc' : c' = c + 1) (hu' : U' = U + n) (kk : ∀ L', nx L' = c' → us L' = U' → kd L' x = 0 → (kd L' c = k ∧ ln L' c = n ∧ fF L' x j = c) → LX L L' c j x → am_X G M d pc ls st L' h Q) : am_X G M d pc ls st (am_pf (am_al L k n) x j (nx L)) h Q := by
  subst hc
  subst hu
  subst hc'
  subst hu'
  exact x_arr kx hx kk
/-- an object at c (k cells: N of them, U slots) in the field j of the object at x -/
theorem y_obj {L1 : am_L} {P : am_L → Prop} {k : Nat} {n j : Int} (c c' U U' : Int) (hc : nx L = c) (hu : us L = U) (kx : kd L x = 0) (hx : x < c) (hn : nx L1 = c') (hu' : us L1 = U') (hl : LB (am_al L k n) L1 c) (hcc : c ≤ c') (hP : ∀ L', LX L1 L' c' j x → P L') (kk : ∀ L', nx L' = c' → us L' = U' → kd L' x = 0 → (P L' ∧ fF L' x j = c) → LX L L' c j x → am_X G M d pc ls st L' h Q) : am_X G M d pc ls st (am_pf L1 x j (nx L)) h Q := by
  subst hc
  have r1 : LX L L1 (nx L) j x := ((LX.rf L (nx L) j x).al (Int.le_refl _) hx).lb hl (Int.le_refl _) hx
  refine kk _ ?_ ?_ ?_ ⟨hP _ ((LX.rf L1 c' j x).px (Int.le_refl _)), ?_⟩ ?_
  · rw [nx_pf, hn]
  · rw [us_pf, hu']
  · rw [kd_pf, r1.2.1]
    exact kx
  · rw [fF_pf, if_pos ⟨rfl, rfl⟩]
  · exact r1.px (Int.le_refl _)
/-- a layout by its name -/
theorem y_gen (kk : ∀ L', L' = L → am_X G M d pc ls st L' h Q) : am_X G M d pc ls st L h Q := kk L rfl
theorem y_genH (kk : ∀ h', h' = h → am_X G M d pc ls st L h' Q) : am_X G M d pc ls st L h Q := kk h rfl
/-- m cloths stand in the array b of N, at c and behind -/
def Sl (L : am_L) (b N c m : Int) : Prop := kd L b = 113 ∧ ln L b = N ∧ ∀ k, 0 ≤ k → k < m → fF L b k = c + 31 * k ∧ ClL L (c + 31 * k)
theorem LX.sw {L L' : am_L} {c c' m b x : Int} (a : LX L L' c m b) (J : Int) (h : c' ≤ b) (h2 : b ≤ c) (hx : x < c) (hb : x ≠ b) : LX L L' c' J x := ⟨fun y z w => a.1 y (by omega) (by omega), (a.1 x hx hb).1, (a.1 x hx hb).2.1, fun j _ => (a.1 x hx hb).2.2 j⟩
theorem Sl.lx {L L' : am_L} {b N c m c' J x : Int} (s : Sl L b N c m) (a : LX L L' c' J x) (h : c + 31 * m ≤ c') (hb : b < c') (h1 : x < b) (h2 : b < c) : Sl L' b N c m :=
  ⟨by rw [(a.1 b hb (by omega)).1]; exact s.1, by rw [(a.1 b hb (by omega)).2.1]; exact s.2.1, fun k z0 z1 => ⟨by rw [(a.1 b hb (by omega)).2.2]; exact (s.2.2 k z0 z1).1, (s.2.2 k z0 z1).2.lx a (by omega) (by omega)⟩⟩
theorem y_slot {L1 : am_L} (b N c m cm U U' : Int) (s : Sl L b N c m) (hm : 0 ≤ m) (hcm : cm = c + 31 * m) (hn : nx L = cm) (hu : us L1 = U') (hb : b < c) (tc : ClL L1 cm) (n1 : nx L1 = cm + 31) (bc : LB (am_al L 5 11) L1 cm) (kk : ∀ L', nx L' = cm + 31 → us L' = U' → Sl L' b N c (m + 1) → LX L L' c m b → am_X G M d pc ls st L' h Q) : am_X G M d pc ls st (am_pf L1 b m cm) h Q := by
  have r1 : LX L L1 cm m b := ((LX.rf L cm m b).al (by omega) (by omega)).lb bc (Int.le_refl _) (by omega)
  have r2 : LX L (am_pf L1 b m cm) cm m b := r1.px (Int.le_refl _)
  refine kk _ (by rw [nx_pf]; exact n1) (by rw [us_pf]; exact hu) ⟨r2.2.1.trans s.1, r2.2.2.1.trans s.2.1, fun k z0 z1 => ?_⟩ (r2.up (by omega) (Int.le_refl _))
  rcases Int.lt_or_le k m with q | q
  · exact ⟨(r2.2.2.2 k q).trans (s.2.2 k z0 q).1, (s.2.2 k z0 q).2.lx r2 (by omega) (by omega)⟩
  · have e : k = m := by omega
    subst e
    refine ⟨by rw [fF_pf, if_pos ⟨rfl, rfl⟩]; exact hcm, ?_⟩
    rw [← hcm]
    exact tc.lx ((LX.rf L1 (cm + 31) k b).px (Int.le_refl _)) (Int.le_refl _) (by omega)
/-- a field of the object at x is written -/
theorem y_put (c N U j v : Int) (hn : nx L = N) (hu : us L = U) (kx : kd L x = 0) (kk : ∀ L', nx L' = N → us L' = U → kd L' x = 0 → fF L' x j = v → LX L L' c j x → am_X G M d pc ls st L' h Q) : am_X G M d pc ls st (am_pf L x j v) h Q :=
  kk _ (by rw [nx_pf]; exact hn) (by rw [us_pf]; exact hu) kx (by rw [fF_pf, if_pos ⟨rfl, rfl⟩]) ((LX.rf L c j x).px (Int.le_refl _))
end XGEN5
