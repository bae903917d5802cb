/-! THREADTOWN READS: one more man -/
set_option maxRecDepth 100000
section TXADD
variable {L L' : am_L} {h h' : am_H} {t c e l l' m b j v p k s n id i1 i2 : Int} {A E : Int → Int} {u u' : PS}
/-- the text with one man more -/
def uMan (u : PS) (id i j : Int) : PS := uT' (uNam' u id) (tMan' (uT u) i j)
theorem TxA.ls (r : TxA L t l u) (ek : ∀ y, t ≤ y → y ≤ t + 6 → kd L' y = kd L y ∧ ln L' y = ln L y) (ef : ∀ y i, t ≤ y → y ≤ t + 6 → y ≠ t + 1 → fF L' y i = fF L y i) (hw : LwO L' (tL (uT u)) (fF L t 11)) (hl : fF L' (t + 1) 1 = l' ∧ fF L' (t + 1) 2 = tM (uT u) + 1 ∧ fF L' (t + 1) 0 = tM (uT u) + 1) (hk : kd L' l' = 116) (h10 : t + 6 < l' ∧ ln L' l' = 10) : TxA L' t l' (uMan u id i1 i2) := by
  obtain ⟨r1, r2, r3, r4, r5, r6, r7, ⟨r8, r9, r10, r11, r12⟩, r13, r14⟩ := r
  have k0 := ek t (by omega) (by omega)
  have k1 := ek (t + 1) (by omega) (by omega)
  have k2 := ek (t + 2) (by omega) (by omega)
  have k3 := ek (t + 3) (by omega) (by omega)
  have k4 := ek (t + 4) (by omega) (by omega)
  have k5 := ek (t + 5) (by omega) (by omega)
  have k6 := ek (t + 6) (by omega) (by omega)
  have e0 : ∀ i, fF L' t i = fF L t i := fun i => ef t i (by omega) (by omega) (by omega)
  have e2 : ∀ i, fF L' (t + 2) i = fF L (t + 2) i := fun i => ef _ i (by omega) (by omega) (by omega)
  have e3 : ∀ i, fF L' (t + 3) i = fF L (t + 3) i := fun i => ef _ i (by omega) (by omega) (by omega)
  have e4 : ∀ i, fF L' (t + 4) i = fF L (t + 4) i := fun i => ef _ i (by omega) (by omega) (by omega)
  have e5 : ∀ i, fF L' (t + 5) i = fF L (t + 5) i := fun i => ef _ i (by omega) (by omega) (by omega)
  have e6 : ∀ i, fF L' (t + 6) i = fF L (t + 6) i := fun i => ef _ i (by omega) (by omega) (by omega)
  refine ⟨k0.1.trans r1, ?_, ?_, ?_, ⟨k1.1.trans r5.1, hl⟩, hk, Or.inr h10, ⟨⟨k2.1.trans r8.1, k2.2.trans r8.2⟩, ⟨k3.1.trans r9.1, k3.2.trans r9.2⟩, ⟨k4.1.trans r10.1, k4.2.trans r10.2⟩, ⟨k5.1.trans r11.1, k5.2.trans r11.2⟩, ⟨k6.1.trans r12.1, k6.2.trans r12.2⟩⟩, ?_, ?_⟩
  · simp only [e0]; exact r2
  · simp only [e0]; exact r3
  · rw [e0]; exact hw
  · simp only [e2, e3]; exact r13
  · simp only [e4, e5, e6]; exact r14
/-- the man at c, not in the list yet -/
def NwM (L : am_L) (h : am_H) (c e id i j : Int) : Prop := kd L c = 14 ∧ c < e ∧ NmL L h (fF L c 0) id ∧ (fF L c 1 = e ∧ fF L c 2 = e + 1) ∧ (fF L c 3 = i ∧ fF L c 4 = j ∧ fF L c 5 = 0 ∧ fF L c 6 = 0 ∧ fF L c 7 = 0) ∧ (kd L e = 117 ∧ ln L e = 6) ∧ (kd L (e + 1) = 117 ∧ ln L (e + 1) = 6)
theorem new_men (r3 : t + 6 < c) (r2 : TxM L h t l A E u) (r4 : ∀ m, 0 ≤ m → m < tM (uT u) → E m + 1 < c) (hn : NwM L h c e id i1 i2) : (∀ m, 0 ≤ m → m < tM (uT u) + 1 → MnP L h t (up1 A (tM (uT u)) c) (up1 E (tM (uT u)) e) (uMan u id i1 i2) m) ∧ ∀ m m', 0 ≤ m → m < m' → m' < tM (uT u) + 1 → up1 E (tM (uT u)) e m + 1 < up1 A (tM (uT u)) c m' := by
  refine ⟨fun m z0 z1 => ?_, fun m m' z0 z1 z2 => ?_⟩
  · by_cases q : m = tM (uT u)
    · have eA : up1 A (tM (uT u)) c m = c := if_pos q
      have eE : up1 E (tM (uT u)) e m = e := if_pos q
      obtain ⟨n1, n2, n3, n4, n5, n6, n7⟩ := hn
      have x1 : uN (uMan u id i1 i2) m = id := if_pos q
      have x2 : tDX (uT (uMan u id i1 i2)) m = i1 := if_pos q
      have x3 : tDY (uT (uMan u id i1 i2)) m = i2 := if_pos q
      have x4 : tE (uT (uMan u id i1 i2)) m = 0 := if_pos q
      have x5 : tDye (uT (uMan u id i1 i2)) m = 0 := if_pos q
      have x6 : tG (uT (uMan u id i1 i2)) m = none := if_pos q
      unfold MnP
      rw [eA, eE, x1, x2, x3, x4, x5, x6]
      exact ⟨n1, ⟨r3, n2⟩, n3, n4, ⟨n5.1, n5.2.1, n5.2.2.1, n5.2.2.2.1⟩, n6, n7, fun k z0 z1 => by omega, Or.inl ⟨rfl, n5.2.2.2.2⟩⟩
    · have eA : up1 A (tM (uT u)) c m = A m := if_neg q
      have eE : up1 E (tM (uT u)) e m = E m := if_neg q
      have w : MnP L h t (up1 A (tM (uT u)) c) (up1 E (tM (uT u)) e) u m := by
        unfold MnP
        rw [eA, eE]
        exact (r2.1 m z0 (by omega)).2
      exact w.cg (if_neg q) (if_neg q) (if_neg q) (if_neg q) (if_neg q) (fun _ => ⟨rfl, rfl⟩) (if_neg q)
  · have eE : up1 E (tM (uT u)) e m = E m := if_neg (by omega)
    rw [eE]
    by_cases q : m' = tM (uT u)
    · rw [show up1 A (tM (uT u)) c m' = c from if_pos q]
      exact r4 m z0 (by omega)
    · rw [show up1 A (tM (uT u)) c m' = A m' from if_neg q]
      exact r2.2 m m' z0 z1 (by omega)
theorem MnP.kk (r : MnP L h t A E u m) (hb : kd L b = 20 ∨ kd L b = 116) : MnP (am_pf L b j v) h t A E u m := by
  have h1 := r.1
  have h2 := r.2.2.2.2.2.1.1
  have h3 := r.2.2.2.2.2.2.1.1
  refine r.pk (by unfold okTx; omega) ?_ ?_ ?_
  · intro z; rw [z] at hb; omega
  · intro z; rw [z] at hb; omega
  · intro z; rw [z] at hb; omega
theorem tx_add1 (r0 : 200 ≤ t) (r3 : t + 6 < c) (r1 : TxA L t 1 u) (r2 : TxM L h t 1 A E u) (r4 : ∀ m, 0 ≤ m → m < tM (uT u) → E m + 1 < c) (hn : NwM L h c e id i1 i2) (wf : am_Wf L h) (hM : 0 ≤ tM (uT u)) : TxP (am_pf (am_pf (am_pf (am_al (am_pf L (t + 1) 0 (tM (uT u) + 1)) 116 10) (t + 1) 1 (nx L)) (nx L) (tM (uT u)) c) (t + 1) 2 (tM (uT u) + 1)) h t (uMan u id i1 i2) := by
  show TxP (am_pf (am_pf (am_pf (am_pf (am_al L 116 10) (t + 1) 0 (tM (uT u) + 1)) (t + 1) 1 (nx L)) (nx L) (tM (uT u)) c) (t + 1) 2 (tM (uT u) + 1)) h t (uMan u id i1 i2)
  obtain ⟨w1, w2⟩ := new_men r3 r2 r4 hn
  have hw := hwL.of wf
  have hk1 : kd L (t + 1) = 20 := r1.2.2.2.2.1.1
  have hq := r1
  obtain ⟨-, -, -, hlw, -, -, r7, ⟨-, -, -, -, k6⟩, -⟩ := hq
  have hn6 := hw (t + 6) (by omega)
  have hl1 : LB L (am_al L 116 10) (nx L) := (LB.rf _ _).al (Int.le_refl _)
  have kt : kd (am_al L 116 10) (t + 1) = 20 := ((hl1 _ (by omega)).1).trans hk1
  have kn : kd (am_al L 116 10) (nx L) = 116 := if_pos rfl
  have g1 : ∀ y, y < nx L → kd (am_al L 116 10) y = kd L y ∧ ln (am_al L 116 10) y = ln L y := fun y z => ⟨(hl1 y z).1, (hl1 y z).2.1⟩
  have hok : okTx (am_al L 116 10) (t + 1) := by unfold okTx; omega
  have hok2 : okTx (am_al L 116 10) (nx L) := by unfold okTx; omega
  refine ⟨r0, nx L, up1 A (tM (uT u)) c, up1 E (tM (uT u)) e, r1.ls (fun y z0 z1 => g1 y (by omega)) (fun y i z0 z1 z2 => ?_) ?_ ⟨?_, ?_, ?_⟩ kn ⟨by omega, if_pos rfl⟩, fun m z0 z1 => ⟨?_, ?_⟩, w2⟩
  · exact (((pf_ne z2).trans (pf_ne (by omega))).trans (pf_ne z2)).trans (pf_ne z2)
  · exact ((((hlw.lb hw hl1).pk hok).pk (L := am_pf _ _ _ _) hok).pk (L := am_pf (am_pf _ _ _ _) _ _ _) hok2).pk (L := am_pf (am_pf (am_pf _ _ _ _) _ _ _) _ _ _) hok
  · exact ((pf_nj (by decide)).trans (pf_ne (by omega))).trans pf_eq
  · exact pf_eq
  · exact (((pf_nj (by decide)).trans (pf_ne (by omega))).trans (pf_nj (by decide))).trans pf_eq
  · have z1' : m < tM (uT u) + 1 := z1
    refine ((pf_ne (by omega)).trans pf_up).trans ?_
    refine up1_cg (f := fF _ (nx L)) fun q => ?_
    have := (r2.1 m z0 (by omega)).1
    omega
  · have z1' : m < tM (uT u) + 1 := z1
    have s0 := (w1 m z0 z1').lb wf hl1 (fun _ _ => rfl)
    exact (((s0.kk (Or.inl kt)).kk (L := am_pf _ _ _ _) (Or.inl kt)).kk (L := am_pf (am_pf _ _ _ _) _ _ _) (Or.inr kn)).kk (L := am_pf (am_pf (am_pf _ _ _ _) _ _ _) _ _ _) (Or.inl kt)
theorem tx_add2 (r0 : 200 ≤ t) (r3 : t + 6 < c) (r1 : TxA L t l u) (r2 : TxM L h t l A E u) (r4 : ∀ m, 0 ≤ m → m < tM (uT u) → E m + 1 < c) (hn : NwM L h c e id i1 i2) (hl : t + 6 < l ∧ ln L l = 10) : TxP (am_pf (am_pf (am_pf L (t + 1) 0 (tM (uT u) + 1)) l (tM (uT u)) c) (t + 1) 2 (tM (uT u) + 1)) h t (uMan u id i1 i2) := by
  obtain ⟨w1, w2⟩ := new_men r3 r2 r4 hn
  have hq := r1
  obtain ⟨-, -, -, hlw, r5, r6, r7, -⟩ := hq
  have hok : okTx L (t + 1) := by unfold okTx; omega
  have hok2 : okTx L l := by unfold okTx; omega
  refine ⟨r0, l, up1 A (tM (uT u)) c, up1 E (tM (uT u)) e, r1.ls (fun y z0 z1 => ⟨rfl, rfl⟩) (fun y i z0 z1 z2 => ?_) ?_ ⟨?_, ?_, ?_⟩ r6 hl, fun m z0 z1 => ⟨?_, ?_⟩, w2⟩
  · exact ((pf_ne z2).trans (pf_ne (by omega))).trans (pf_ne z2)
  · exact ((hlw.pk hok).pk (L := am_pf _ _ _ _) hok2).pk (L := am_pf (am_pf _ _ _ _) _ _ _) hok
  · exact (((pf_nj (by decide)).trans (pf_ne (by omega))).trans (pf_nj (by decide))).trans r5.2.1
  · exact pf_eq
  · exact ((pf_nj (by decide)).trans (pf_ne (by omega))).trans pf_eq
  · have z1' : m < tM (uT u) + 1 := z1
    refine ((pf_ne (by omega)).trans pf_up).trans ?_
    refine up1_cg (f := fF _ l) fun q => ?_
    exact (pf_ne (by omega)).trans (r2.1 m z0 (by omega)).1
  · have z1' : m < tM (uT u) + 1 := z1
    have s0 := w1 m z0 z1'
    exact ((s0.kk (Or.inl r5.1)).kk (L := am_pf _ _ _ _) (Or.inr r6)).kk (L := am_pf (am_pf _ _ _ _) _ _ _) (Or.inl r5.1)
end TXADD
