/-! READING: what is kept from order to order -/
set_option maxRecDepth 100000
section INV2
variable {L : am_L} {h : am_H} {x t a a' a1 c lo hi v n tk k m i j N : Int} {u u' w : PS} {K V I : Int → Int}
theorem PsI.man {nm : Int} (r : PsI u) (h7 : tM (uT u) ≠ 7) : PsI (uMan (uCor' u i j tk) nm i j) := by
  obtain ⟨r1, r2, r3, r4⟩ := r
  refine ⟨⟨?_, ?_⟩, r2, fun m z0 z1 => ?_, ?_⟩
  · show 0 ≤ tM (uT u) + 1; omega
  · show tM (uT u) + 1 ≤ 7; omega
  · have z1' : m < tM (uT u) + 1 := z1
    show 0 ≤ up1 (tE (uT u)) (tM (uT u)) 0 m ∧ up1 (tE (uT u)) (tM (uT u)) 0 m ≤ 6
    unfold up1
    split
    · omega
    · exact r3 m z0 (by omega)
  · show uC u + 1 = tM (uT u) + 1 + sumI (tM (uT u) + 1) (up1 (tE (uT u)) (tM (uT u)) 0)
    rw [sumI_s _ r1.1, show up1 (tE (uT u)) (tM (uT u)) 0 (tM (uT u)) = 0 from if_pos rfl, sumI_congr (f := up1 (tE (uT u)) (tM (uT u)) 0) (g := tE (uT u)) (fun k z0 z1 => if_neg (by omega))]
    omega
theorem PsI.err (r : PsI u) (h0 : 0 ≤ k) (h1 : k < tM (uT u)) (h6 : tE (uT u) k ≠ 6) : PsI (uT' (uCor' u i j tk) (tErr' (uT u) k i j)) := by
  obtain ⟨r1, r2, r3, r4⟩ := r
  refine ⟨r1, r2, fun m z0 z1 => ?_, ?_⟩
  · show 0 ≤ up1 (tE (uT u)) k (tE (uT u) k + 1) m ∧ up1 (tE (uT u)) k (tE (uT u) k + 1) m ≤ 6
    have := r3 k h0 h1
    unfold up1
    split
    · omega
    · exact r3 m z0 z1
  · show uC u + 1 = tM (uT u) + sumI (tM (uT u)) (up1 (tE (uT u)) k (tE (uT u) k + 1))
    rw [sumI_up ⟨h0, h1⟩]
    omega
/-- the tokens that are kept are tokens up to N -/
def PsW (N : Int) (u : PS) : Prop := (0 ≤ uW u ∧ uW u ≤ 6) ∧ (uW u ≠ 0 → 0 ≤ uV u ∧ uV u ≤ N) ∧ ∀ i, 0 ≤ i → i < uC u → 0 ≤ uK u i ∧ uK u i ≤ N
theorem PsW.tell (r : PsW N u) (hn : 0 ≤ n ∧ n ≤ 6) (htk : 0 ≤ tk ∧ tk ≤ N) : PsW N (pTell n tk u) := by
  unfold pTell
  split
  · exact r
  · exact ⟨hn, fun _ => htk, r.2.2⟩
theorem pNum_w (r : PsW N u) (ha : 0 ≤ a ∧ a ≤ N) (h : pNum K V lo hi a u = .inl (v, a', u')) : PsW N u' := by
  obtain ⟨q, h1, h2⟩ := rb_i h
  cases h2
  split
  · exact r.tell (by decide) ha
  · exact r
theorem pKnown_w (r : PsW N u) (ha : 0 ≤ a ∧ a ≤ N) (h : pKnown K I a u = .inl (k, a', u')) : PsW N u' := by
  obtain ⟨q, h1, h2⟩ := rb_i h
  cases h2
  split
  · exact r.tell (by decide) ha
  · exact r
theorem pName_w (r : PsW N u) (ha : 0 ≤ a ∧ a ≤ N) (h : pName K I a u = .inl (a', u')) : PsW N u' := by
  obtain ⟨q, h1, h2⟩ := rb_i h
  cases h2
  split
  · exact r.tell (by decide) ha
  · exact r
theorem PsW.cor (r : PsW N u) (htk : 0 ≤ tk ∧ tk ≤ N) : PsW N (uCor' u i j tk) := by
  refine ⟨r.1, r.2.1, fun m z0 z1 => ?_⟩
  have z1' : m < uC u + 1 := z1
  show 0 ≤ up1 (uK u) (uC u) tk m ∧ up1 (uK u) (uC u) tk m ≤ N
  unfold up1
  split
  · exact htk
  · exact r.2.2 m z0 (by omega)
/-- what holds of the text stays -/
theorem pTold_I (hnx : ∀ a, 0 ≤ a → a ≤ N → K a ≠ 0 → K a ≠ 3 → a < 400 → a + 1 ≤ N) (ha : 0 ≤ a ∧ a ≤ N) (r : PsI u) (s : PsW N u) (h : pTold K V I a u = .inl (a', u')) : PsI u' ∧ PsW N u' := by
  unfold pTold at h
  split at h
  · rename_i q
    obtain ⟨b1, e1, h⟩ := rb_i h
    obtain ⟨⟨v2, b2, u2⟩, e2, h⟩ := rb_i h
    obtain ⟨⟨v3, b3, u3⟩, e3, h⟩ := rb_i h
    cases h
    obtain ⟨x1, x2⟩ := pP_i e1
    have y2 := pNum_i e2
    have y3 := pNum_i e3
    have n1 := hnx a ha.1 ha.2 (by omega) (by omega) x1
    have n2 := hnx b1 (by omega) (by omega) (by omega) (by omega) y2.2.2.2.1
    have w3 := pNum_w (pNum_w s (by omega) e2) (by have := y2.2.2.1; simp only at *; omega) e3
    have rr := r.ts (y2.1.tr y3.1)
    exact ⟨rr, w3⟩
  split at h
  · rename_i q
    obtain ⟨b1, e1, h⟩ := rb_i h
    obtain ⟨⟨b2, u2⟩, e2, h⟩ := rb_i h
    obtain ⟨⟨v3, b3, u3⟩, e3, h⟩ := rb_i h
    obtain ⟨⟨v4, b4, u4⟩, e4, h⟩ := rb_i h
    cases h
    obtain ⟨x0, x1, x2⟩ := pBeg_i e1
    have y2 := pName_i e2
    have y3 := pNum_i e3
    have y4 := pNum_i e4
    have n1 := hnx a ha.1 ha.2 (by omega) (by omega) x1
    have n2 := hnx b1 (by omega) (by omega) (by omega) (by omega) y2.2.2.1
    have z2 := y2.2.1
    simp only at z2 y3 y4 e3 e4
    have n3 := hnx b2 (by omega) (by omega) (by omega) (by omega) y3.2.2.2.1
    have w2 := pName_w s (by omega) e2
    have w3 := pNum_w w2 (by omega) e3
    have w4 := pNum_w w3 (by omega) e4
    have ts := (y2.1.tr y3.1).tr y4.1
    have t1 : tM (uT u4) = tM (uT u) := by rw [ts.eq]; rfl
    exact ⟨(r.ts ts).man (by omega), w4.cor (by omega)⟩
  split at h
  · rename_i q
    obtain ⟨b1, e1, h⟩ := rb_i h
    obtain ⟨⟨k2, b2, u2⟩, e2, h⟩ := rb_i h
    obtain ⟨⟨l3, b3⟩, e3, h⟩ := rb_i h
    obtain ⟨x1, x2⟩ := pP_i e1
    have y2 := pKnown_i e2
    have n1 := hnx a ha.1 ha.2 (by omega) (by omega) x1
    have w2 := pKnown_w s (by omega) e2
    cases h
    have rr := r.ts y2.1
    split
    · exact ⟨rr, w2⟩
    · exact ⟨rr, w2⟩
  split at h
  · obtain ⟨b1, e1, h⟩ := rb_i h
    obtain ⟨⟨l3, b3⟩, e3, h⟩ := rb_i h
    cases h
    exact ⟨r, s⟩
  split at h
  · rename_i q
    obtain ⟨b1, e1, h⟩ := rb_i h
    split at h
    · exact absurd h (by intro q; cases q)
    · rename_i q6
      obtain ⟨⟨k2, b2, u2⟩, e2, h⟩ := rb_i h
      obtain ⟨⟨v3, b3, u3⟩, e3, h⟩ := rb_i h
      obtain ⟨⟨v4, b4, u4⟩, e4, h⟩ := rb_i h
      obtain ⟨x1, x2⟩ := pP_i e1
      have y2 := pKnown_i e2
      have y3 := pNum_i e3
      have y4 := pNum_i e4
      simp only at y2 y3 y4 e3 e4
      have n1 := hnx a ha.1 ha.2 (by omega) (by omega) x1
      have n2 := hnx b1 (by omega) (by omega) (by omega) (by omega) y2.2.2.2.1
      have n3 := hnx b2 (by omega) (by omega) (by omega) (by omega) y3.2.2.2.1
      have w2 := pKnown_w s (by omega) e2
      have w3 := pNum_w w2 (by omega) e3
      have w4 := pNum_w w3 (by omega) e4
      have ts := (y2.1.tr y3.1).tr y4.1
      have t1 : tM (uT u4) = tM (uT u) := by rw [ts.eq]; rfl
      have t2 : tE (uT u4) = tE (uT u) := by rw [ts.eq]; rfl
      have hfd := fdM_rg (u := u) (id := I b1) r.1.1
      cases h
      split
      · exact ⟨r.ts ts, w4⟩
      · rename_i q7
        refine ⟨(r.ts ts).err (by omega) (by omega) ?_, w4.cor (show 0 ≤ b2 ∧ b2 ≤ N by omega)⟩
        rw [t2, y2.2.1]
        exact fun z => q6 ⟨⟨y2.2.2.2.2.1, by omega⟩, z⟩
  split at h
  · rename_i q
    obtain ⟨b1, e1, h⟩ := rb_i h
    obtain ⟨⟨v3, b3, u3⟩, e3, h⟩ := rb_i h
    obtain ⟨⟨v4, b4, u4⟩, e4, h⟩ := rb_i h
    obtain ⟨x0, x1, x2⟩ := pBeg_i e1
    have y3 := pNum_i e3
    have y4 := pNum_i e4
    simp only at y3 y4 e3 e4
    have n1 := hnx a ha.1 ha.2 (by omega) (by omega) x1
    have n2 := hnx b1 (by omega) (by omega) (by omega) (by omega) y3.2.2.2.1
    have w3 := pNum_w s (by omega) e3
    have w4 := pNum_w w3 (by omega) e4
    have ts := y3.1.tr y4.1
    have t1 : tP (uT u4) = tP (uT u) := by rw [ts.eq]; rfl
    cases h
    have r4 := r.ts ts
    refine ⟨⟨r4.1, ?_, r4.2.2⟩, w4⟩
    have := r4.2.1
    show 0 ≤ tP (uT u4) + 1 ∧ tP (uT u4) + 1 ≤ 6
    omega
  split at h
  · rename_i q
    obtain ⟨b1, e1, h⟩ := rb_i h
    obtain ⟨⟨k2, b2, u2⟩, e2, h⟩ := rb_i h
    obtain ⟨⟨v3, b3, u3⟩, e3, h⟩ := rb_i h
    obtain ⟨x1, x2⟩ := pP_i e1
    have y2 := pKnown_i e2
    have y3 := pNum_i e3
    simp only at y2 y3 e3
    have n1 := hnx a ha.1 ha.2 (by omega) (by omega) x1
    have n2 := hnx b1 (by omega) (by omega) (by omega) (by omega) y2.2.2.2.1
    have w3 := pNum_w (pKnown_w s (by omega) e2) (by omega) e3
    cases h
    have rr := r.ts (y2.1.tr y3.1)
    split
    · exact ⟨rr, w3⟩
    · exact ⟨rr, w3⟩
  split at h
  · rename_i q
    obtain ⟨b1, e1, h⟩ := rb_i h
    obtain ⟨⟨v3, b3, u3⟩, e3, h⟩ := rb_i h
    obtain ⟨x1, x2⟩ := pP_i e1
    have y3 := pNum_i e3
    have n1 := hnx a ha.1 ha.2 (by omega) (by omega) x1
    have w3 := pNum_w s (by omega) e3
    cases h
    have rr := r.ts y3.1
    exact ⟨rr, w3⟩
  · exact absurd h (by intro q; cases q)
theorem PsI_0 : PsI u0 := ⟨⟨by decide, by decide⟩, ⟨by decide, by decide⟩, fun m z0 z1 => absurd z1 (by show ¬ m < 0; omega), rfl⟩
theorem PsW_0 : PsW N u0 := ⟨⟨by decide, by decide⟩, fun z => absurd rfl z, fun m z0 z1 => absurd z1 (by show ¬ m < 0; omega)⟩
/-- the text that is made is the text that is told -/
theorem TxP.tl (r : TxP L h t u) (s : PsI u) : TxL L t (uT u) := by
  have hl := r.ls s.1
  have hf := r.f0
  obtain ⟨r0, l, A, E, ⟨r1, r2, r3, r4, r5, r6, r7, r8, r9, r10⟩, s1, s2⟩ := r
  unfold TxL
  refine ⟨r1, ?_, fun m z0 z1 => ?_, r3.1, r3.2.1, r3.2.2.1, r3.2.2.2.2, ?_, ?_, r4⟩
  · rw [hf]
    refine ⟨hl.1, hl.2.1, hl.2.2.1, hl.2.2.2.1, hl.2.2.2.2.1, fun i z0 z1 => ?_⟩
    unfold manA
    rw [hf]
  · obtain ⟨e, m1, m2, m3, m4, m5, m6, m7, m8, m9⟩ := s1 m z0 z1
    have ea : manA L t m = A m := by unfold manA; rw [hf, r5.2.1]; exact e
    rw [ea]
    refine ⟨m1, m5.1, m5.2.1, m5.2.2.1, m5.2.2.2, ?_, ?_, m9⟩
    · rw [m4.1]
      exact ⟨m6.1, m6.2, fun k z0 z1 => (m8 k z0 z1).1⟩
    · rw [m4.2]
      exact ⟨m7.1, m7.2, fun k z0 z1 => (m8 k z0 z1).2⟩
  · rw [r2.2.1]
    exact ⟨r8.1.1, r8.1.2, fun p z0 z1 => (r9 p z0 z1).1⟩
  · rw [r2.2.2.1]
    exact ⟨r8.2.1.1, r8.2.1.2, fun p z0 z1 => (r9 p z0 z1).2⟩
end INV2
