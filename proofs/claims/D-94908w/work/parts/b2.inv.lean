/-! READING: what holds of the text in the making -/
set_option maxRecDepth 100000
section INVPS
variable {L L' L2 : am_L} {h h' h2 : am_H} {x t a a' c c1 c2 lo hi v n tk k m i j id D N : Int} {b : Int → Int} {u u' w : PS} {K V I : Int → Int}
/-- the same text; at most more faults wait -/
def TS (u u' : PS) : Prop := u'.1 = u.1 ∧ u'.2.1 = u.2.1 ∧ (uW u' = 0 → uW u = 0)
theorem TS.rf (u : PS) : TS u u := ⟨rfl, rfl, fun z => z⟩
theorem TS.tr (r : TS u u') (s : TS u' w) : TS u w := ⟨s.1.trans r.1, s.2.1.trans r.2.1, fun z => r.2.2 (s.2.2 z)⟩
theorem TS.tell (hn : n ≠ 0) : TS u (pTell n tk u) ∧ uW (pTell n tk u) ≠ 0 := by
  unfold pTell
  split
  · rename_i q
    exact ⟨TS.rf u, q.1⟩
  · exact ⟨⟨rfl, rfl, fun z => absurd z hn⟩, hn⟩
theorem TS.eq (r : TS u u') : u' = (u.1, u.2.1, u'.2.2) := by
  obtain ⟨r1, r2, -⟩ := r
  rw [← r1, ← r2]
theorem pM_i {kk : Int} (h : pM K kk a = .inl a') : K a = kk ∧ a < 400 ∧ a' = a + 1 := by
  unfold pM at h
  split at h
  · exact absurd h (by intro q; cases q)
  · split at h
    · exact absurd h (by intro q; cases q)
    · rename_i q1 q2
      cases h
      exact ⟨Decidable.not_not.mp q1, by omega, rfl⟩
theorem pP_i (h : pP a = .inl a') : a < 400 ∧ a' = a + 1 := by
  unfold pP at h
  split at h
  · exact absurd h (by intro q; cases q)
  · cases h
    exact ⟨by omega, rfl⟩
theorem pBeg_i {q : Int} (h : pBeg m q a = .inl a') : m ≠ q ∧ a < 400 ∧ a' = a + 1 := by
  unfold pBeg at h
  split at h
  · exact absurd h (by intro q; cases q)
  · exact ⟨by assumption, pP_i h⟩
theorem rb_i {α β : Type} {r : α ⊕ (Int × Int)} {f : α → β ⊕ (Int × Int)} {y : β} (h : rb r f = .inl y) : ∃ q, r = .inl q ∧ f q = .inl y := by
  match r with
  | .inl q => exact ⟨q, rfl, h⟩
  | .inr e => exact absurd h (by rw [rb_r]; intro q; cases q)
theorem pNum_i (h : pNum K V lo hi a u = .inl (v, a', u')) : TS u u' ∧ v = V a ∧ a' = a + 1 ∧ a < 400 ∧ K a = 2 ∧ (uW u' = 0 → lo ≤ v ∧ v ≤ hi) := by
  obtain ⟨q, h1, h2⟩ := rb_i h
  obtain ⟨m1, m2, m3⟩ := pM_i h1
  cases h2
  refine ⟨?_, rfl, m3, m2, m1, ?_⟩
  · split
    · exact (TS.tell (by decide)).1
    · exact TS.rf u
  · split
    · exact fun z => absurd z (TS.tell (by decide)).2
    · intro z
      omega
theorem pKnown_i (h : pKnown K I a u = .inl (k, a', u')) : TS u u' ∧ k = fdM u (I a) ∧ a' = a + 1 ∧ a < 400 ∧ K a = 1 ∧ (uW u' = 0 → 0 ≤ k) := by
  obtain ⟨q, h1, h2⟩ := rb_i h
  obtain ⟨m1, m2, m3⟩ := pM_i h1
  cases h2
  refine ⟨?_, rfl, m3, m2, m1, ?_⟩
  · split
    · exact (TS.tell (by decide)).1
    · exact TS.rf u
  · split
    · exact fun z => absurd z (TS.tell (by decide)).2
    · intro z
      omega
theorem pName_i (h : pName K I a u = .inl (a', u')) : TS u u' ∧ a' = a + 1 ∧ a < 400 ∧ K a = 1 := by
  obtain ⟨q, h1, h2⟩ := rb_i h
  obtain ⟨m1, m2, m3⟩ := pM_i h1
  cases h2
  refine ⟨?_, m3, m2, m1⟩
  split
  · exact (TS.tell (by decide)).1
  · exact TS.rf u
/-- how many there are -/
def PsI (u : PS) : Prop := (0 ≤ tM (uT u) ∧ tM (uT u) ≤ 7) ∧ (0 ≤ tP (uT u) ∧ tP (uT u) ≤ 6) ∧ (∀ m, 0 ≤ m → m < tM (uT u) → 0 ≤ tE (uT u) m ∧ tE (uT u) m ≤ 6) ∧ uC u = tM (uT u) + sumI (tM (uT u)) (tE (uT u))
theorem PsI.ts (r : PsI u) (s : TS u u') : PsI u' := by
  rw [s.eq]
  exact r
theorem PsI.cb (r : PsI u) : 0 ≤ uC u ∧ uC u ≤ 7 * tM (uT u) := by
  obtain ⟨r1, r2, r3, r4⟩ := r
  have := sumI_bd r1.1 r3
  omega
/-- there is room for one errand more -/
theorem PsI.ce (r : PsI u) (h0 : 0 ≤ k) (h1 : k < tM (uT u)) (h2 : tE (uT u) k < 6) : uC u < 49 := by
  obtain ⟨r1, r2, r3, r4⟩ := r
  have := sumI_lt (n := tM (uT u)) (f := tE (uT u)) (g := fun _ => 6) (c := 1) (k0 := k) ⟨h0, h1⟩ (fun m z0 z1 => (r3 m z0 z1).2) (by show tE (uT u) k + 1 ≤ 6; omega)
  have h6 := sumI_bd (n := tM (uT u)) (b := 6) (f := fun _ => 6) r1.1 (fun _ _ _ => ⟨by decide, by decide⟩)
  omega
theorem fdM_rg (h0 : 0 ≤ tM (uT u)) : fdM u id = -1 ∨ (0 ≤ fdM u id ∧ fdM u id < tM (uT u)) := by
  have := fdN_rg (uN u) (tM (uT u)).toNat 0 id
  unfold fdM
  omega
theorem TS.fd (s : TS u u') : fdM u' id = fdM u id := by
  rw [s.eq]
  rfl
theorem TxP.ts (r : TxP L h t u) (s : TS u u') : TxP L h t u' := by
  rw [s.eq]
  exact r
theorem TxC.ts (r : TxC L h t u c) (s : TS u u') : TxC L h t u' c := by
  rw [s.eq]
  exact r
/-- what is made, what is written, but for the text at t and what came after it -/
def XT (L : am_L) (h : am_H) (L' : am_L) (h' : am_H) (x t c : Int) : Prop := LB L L' t ∧ (nx L ≤ nx L' ∧ nx L' ≤ nx L + 10 * c) ∧ us L' ≤ us L + 100 * c ∧ ∀ a, a < nx L → a ≠ x + 9 → a ≠ x + 1 → h' a = h a
theorem XT.tr (r : XT L h L' h' x t c1) (s : XT L' h' L2 h2 x t c2) (hc : c1 + c2 ≤ c) : XT L h L2 h2 x t c :=
  ⟨r.1.tr s.1 (Int.le_refl _), ⟨by have := r.2.1; have := s.2.1; omega, by have := r.2.1; have := s.2.1; omega⟩, by have := r.2.2.1; have := s.2.2.1; omega, fun a z0 z1 z2 => (s.2.2.2 a (by have := r.2.1; omega) z1 z2).trans (r.2.2.2 a z0 z1 z2)⟩
theorem XT.rf (L : am_L) (h : am_H) (x t : Int) : XT L h L h x t 0 := ⟨LB.rf _ _, ⟨Int.le_refl _, by omega⟩, by omega, fun _ _ _ _ => rfl⟩
theorem XT.le (r : XT L h L' h' x t c1) (hc : c1 ≤ c) : XT L h L' h' x t c := ⟨r.1, ⟨r.2.1.1, by have := r.2.1; omega⟩, by have := r.2.2.1; omega, r.2.2.2⟩
theorem XT.hh (r : XT L h L' h' x t c) (hh : ∀ y, y ≠ x + 9 → y ≠ x + 1 → h2 y = h' y) : XT L h L' h2 x t c := ⟨r.1, r.2.1, r.2.2.1, fun a z0 z1 z2 => (hh a z1 z2).trans (r.2.2.2 a z0 z1 z2)⟩
theorem XT.pf {b9 j9 v9 : Int} (r : XT L h L' h' x t c) (hb : t ≤ b9) : XT L h (am_pf L' b9 j9 v9) h' x t c := ⟨r.1.pf hb, by rw [nx_pf]; exact r.2.1, by rw [us_pf]; exact r.2.2.1, r.2.2.2⟩
theorem XG.xt (r : XG L h L' h' x c) (ht : t ≤ nx L) : XT L h L' h' x t c := ⟨fun y z => r.1 y (by omega), r.2⟩
theorem RdX.ut (r : RdX L h x b D N) (g : XT L h L' h' x t c) (ht : x + 1205 ≤ t) : RdX L' h' x b D N := by
  obtain ⟨r1, r2, r3, r4, r5, r6, r7, r8⟩ := r
  obtain ⟨g1, g2, g3, g4⟩ := g
  refine ⟨r1.lb g1 ht, ⟨r2.1, by omega⟩, r3, fun i z0 z1 => ?_, fun i z0 z1 => ?_, r6, r7, r8⟩
  · rw [g4 _ (by omega) (by omega) (by omega)]
    exact r4 i z0 z1
  · rw [g4 (x + 5) (by omega) (by omega) (by omega), g4 (x + 6) (by omega) (by omega) (by omega), g4 (x + 7) (by omega) (by omega) (by omega), g4 (x + 8) (by omega) (by omega) (by omega)]
    exact r5 i z0 z1
end INVPS
