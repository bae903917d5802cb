/-! READING: a text that is read is in order (2) -/
set_option maxRecDepth 100000
section PTXT2
variable {a a' c lo hi v n tk k m i j N D p X Y nm : Int} {b : Int → Int} {u u' w : PS} {K V I : Int → Int}
def cnO (u : PS) (X Y : Int) : Prop := ∃ i, 0 ≤ i ∧ i < uC u ∧ uX u i = X ∧ uY u i = Y
theorem cnO.cor (r : cnO u X Y) : cnO (uCor' u i j tk) X Y := by
  obtain ⟨q, q0, q1, q2, q3⟩ := r
  refine ⟨q, q0, ?_, ?_, ?_⟩
  · show q < uC u + 1; omega
  · show up1 (uX u) (uC u) i q = X
    rw [← q2]; exact if_neg (by omega)
  · show up1 (uY u) (uC u) j q = Y
    rw [← q3]; exact if_neg (by omega)
theorem cnO.new (h : 0 ≤ uC u) : cnO (uCor' u i j tk) i j := ⟨uC u, h, (by show uC u < uC u + 1; omega), if_pos rfl, if_pos rfl⟩
def RR (u : PS) : Prop := (2 ≤ tWide (uT u) ∧ tWide (uT u) ≤ 12) ∧ (2 ≤ tDeep (uT u) ∧ tDeep (uT u) ≤ 12) ∧ (0 ≤ tSeed (uT u) ∧ tSeed (uT u) ≤ 9999) ∧ (∀ p, 0 ≤ p → p < tP (uT u) → (0 ≤ tPX (uT u) p ∧ tPX (uT u) p ≤ 10) ∧ (0 ≤ tPY (uT u) p ∧ tPY (uT u) p ≤ 10)) ∧
  (∀ m, 0 ≤ m → m < tM (uT u) → 0 ≤ tDye (uT u) m ∧ tDye (uT u) m ≤ 9) ∧ (∀ m, 0 ≤ m → m < tM (uT u) → cnO u (tDX (uT u) m) (tDY (uT u) m)) ∧ ∀ m, 0 ≤ m → m < tM (uT u) → ∀ k, 0 ≤ k → k < tE (uT u) m → cnO u (tEX (uT u) m k) (tEY (uT u) m k)
def LL (u : PS) : Prop := (∀ m, 0 ≤ m → m < tM (uT u) → ∀ la, tG (uT u) m = some la → lamOk la) ∧ ∀ la, tL (uT u) = some la → lamOk la
def PsR (u : PS) : Prop := (uW u = 0 → RR u) ∧ LL u
theorem PsR.ts (r : PsR u) (s : TS u u') : PsR u' := by
  have h0 := s.2.2
  rw [s.eq] at *
  exact ⟨fun z => r.1 (h0 z), r.2⟩
theorem PsR.man (r : PsR u) (h : 0 ≤ uC u) : PsR (uMan (uCor' u i j tk) nm i j) := by
  obtain ⟨r1, r2, r3⟩ := r
  refine ⟨fun z => ?_, fun m z0 z1 la z2 => ?_, r3⟩
  · obtain ⟨s1, s2, s3, s4, s5, s6, s7⟩ := r1 z
    refine ⟨s1, s2, s3, s4, fun m z0 z1 => ?_, fun m z0 z1 => ?_, fun m z0 z1 k w0 w1 => ?_⟩
    · have z1' : m < tM (uT u) + 1 := z1
      show 0 ≤ up1 (tDye (uT u)) (tM (uT u)) 0 m ∧ up1 (tDye (uT u)) (tM (uT u)) 0 m ≤ 9
      unfold up1
      split
      · exact ⟨by decide, by decide⟩
      · exact s5 m z0 (by omega)
    · have z1' : m < tM (uT u) + 1 := z1
      show cnO (uCor' u i j tk) (up1 (tDX (uT u)) (tM (uT u)) i m) (up1 (tDY (uT u)) (tM (uT u)) j m)
      unfold up1
      split
      · exact cnO.new h
      · exact (s6 m z0 (by omega)).cor
    · have z1' : m < tM (uT u) + 1 := z1
      have w1' : k < up1 (tE (uT u)) (tM (uT u)) 0 m := w1
      unfold up1 at w1'
      split at w1'
      · omega
      · exact (s7 m z0 (by omega) k w0 w1').cor
  · have z1' : m < tM (uT u) + 1 := z1
    have z2' : upO (tG (uT u)) (tM (uT u)) none m = some la := z2
    unfold upO at z2'
    split at z2'
    · cases z2'
    · exact r2 m z0 (by omega) la z2'
theorem PsR.err (r : PsR u) (h : 0 ≤ uC u) : PsR (uT' (uCor' u i j tk) (tErr' (uT u) k i j)) := by
  obtain ⟨r1, r2, r3⟩ := r
  refine ⟨fun z => ?_, r2, r3⟩
  obtain ⟨s1, s2, s3, s4, s5, s6, s7⟩ := r1 z
  refine ⟨s1, s2, s3, s4, s5, fun m z0 z1 => (s6 m z0 z1).cor, fun m z0 z1 q w0 w1 => ?_⟩
  have w1' : q < up1 (tE (uT u)) k (tE (uT u) k + 1) m := w1
  show cnO (uCor' u i j tk) (up2 (tEX (uT u)) k (tE (uT u) k) i m q) (up2 (tEY (uT u)) k (tE (uT u) k) j m q)
  unfold up2
  by_cases y : m = k ∧ q = tE (uT u) k
  · rw [if_pos y, if_pos y]
    exact cnO.new h
  · rw [if_neg y, if_neg y]
    refine (s7 m z0 z1 q w0 ?_).cor
    unfold up1 at w1'
    split at w1'
    · rename_i e
      subst e
      have : q ≠ tE (uT u) m := fun z => y ⟨rfl, z⟩
      omega
    · exact w1'
theorem pTold_R (hV : ∀ a, K a = 2 → rg32 (V a)) (r : PsI u) (s : PsR u) (h : pTold K V I a u = .inl (a', u')) : PsR u' ∧ a ≤ a' := by
  have hc := r.cb.1
  unfold pTold at h
  split at h
  · obtain ⟨b1, e1, h⟩ := rb_i h
    obtain ⟨⟨v2, b2, u2⟩, e2, h⟩ := rb_i h
    obtain ⟨⟨v3, b3, u3⟩, e3, h⟩ := rb_i h
    have y1 := pP_i e1
    have y2 := pNum_i e2
    have y3 := pNum_i e3
    simp only at y1 y2 y3
    have hle : a ≤ b3 := by omega
    cases h
    have ss := s.ts (y2.1.tr y3.1)
    refine ⟨⟨fun z => ?_, ss.2⟩, hle⟩
    have z' : uW u3 = 0 := z
    have q := ss.1 z'
    exact ⟨y2.2.2.2.2.2 (y3.1.2.2 z'), y3.2.2.2.2.2 z', q.2.2⟩
  split at h
  · obtain ⟨b1, e1, h⟩ := rb_i h
    obtain ⟨⟨b2, u2⟩, e2, h⟩ := rb_i h
    obtain ⟨⟨v3, b3, u3⟩, e3, h⟩ := rb_i h
    obtain ⟨⟨v4, b4, u4⟩, e4, h⟩ := rb_i h
    have y1 := pBeg_i e1
    have y2 := pName_i e2
    have y3 := pNum_i e3
    have y4 := pNum_i e4
    simp only at y1 y2 y3 y4
    have hle : a ≤ b4 := by omega
    cases h
    have ts := (y2.1.tr y3.1).tr y4.1
    exact ⟨(s.ts ts).man (by rw [ts.eq]; exact hc), hle⟩
  split at h
  · obtain ⟨b1, e1, h⟩ := rb_i h
    obtain ⟨⟨k2, b2, u2⟩, e2, h⟩ := rb_i h
    obtain ⟨⟨l3, b3⟩, e3, h⟩ := rb_i h
    have y1 := pP_i e1
    have y2 := pKnown_i e2
    simp only at y1 y2 e3
    have y3 := pLaw_ok hV e3
    cases h
    have ss := s.ts y2.1
    refine ⟨?_, by omega⟩
    split
    · exact ss
    · refine ⟨ss.1, fun m z0 z1 la z2 => ?_, ss.2.2⟩
      have z2' : upO (tG (uT u2)) k2 (some l3) m = some la := z2
      unfold upO at z2'
      split at z2'
      · cases z2'
        exact y3.1
      · exact ss.2.1 m z0 z1 la z2'
  split at h
  · obtain ⟨b1, e1, h⟩ := rb_i h
    obtain ⟨⟨l3, b3⟩, e3, h⟩ := rb_i h
    have y1 := pP_i e1
    have y3 := pLaw_ok hV e3
    cases h
    refine ⟨⟨s.1, s.2.1, fun la z2 => ?_⟩, by omega⟩
    have z2' : some l3 = some la := z2
    cases z2'
    exact y3.1
  split at h
  · obtain ⟨b1, e1, h⟩ := rb_i h
    split at h
    · cases h
    · obtain ⟨⟨k2, b2, u2⟩, e2, h⟩ := rb_i h
      obtain ⟨⟨v3, b3, u3⟩, e3, h⟩ := rb_i h
      obtain ⟨⟨v4, b4, u4⟩, e4, h⟩ := rb_i h
      have y1 := pP_i e1
      have y2 := pKnown_i e2
      have y3 := pNum_i e3
      have y4 := pNum_i e4
      simp only at y1 y2 y3 y4
      have hle : a ≤ b4 := by omega
      cases h
      have ts := (y2.1.tr y3.1).tr y4.1
      refine ⟨?_, hle⟩
      split
      · exact s.ts ts
      · exact (s.ts ts).err (by rw [ts.eq]; exact hc)
  split at h
  · obtain ⟨b1, e1, h⟩ := rb_i h
    obtain ⟨⟨v3, b3, u3⟩, e3, h⟩ := rb_i h
    obtain ⟨⟨v4, b4, u4⟩, e4, h⟩ := rb_i h
    have y1 := pBeg_i e1
    have y3 := pNum_i e3
    have y4 := pNum_i e4
    simp only at y1 y3 y4
    have hle : a ≤ b4 := by omega
    cases h
    have ss := s.ts (y3.1.tr y4.1)
    refine ⟨⟨fun z => ?_, ss.2⟩, hle⟩
    have z' : uW u4 = 0 := z
    obtain ⟨s1, s2, s3, s4, s5, s6, s7⟩ := ss.1 z'
    refine ⟨s1, s2, s3, fun p z0 z1 => ?_, s5, s6, s7⟩
    have z1' : p < tP (uT u4) + 1 := z1
    have g3 := y3.2.2.2.2.2 (y4.1.2.2 z')
    have g4 := y4.2.2.2.2.2 z'
    show (0 ≤ up1 (tPX (uT u4)) (tP (uT u4)) v3 p ∧ up1 (tPX (uT u4)) (tP (uT u4)) v3 p ≤ 10) ∧ (0 ≤ up1 (tPY (uT u4)) (tP (uT u4)) v4 p ∧ up1 (tPY (uT u4)) (tP (uT u4)) v4 p ≤ 10)
    unfold up1
    split
    · exact ⟨g3, g4⟩
    · exact s4 p z0 (by omega)
  split at h
  · obtain ⟨b1, e1, h⟩ := rb_i h
    obtain ⟨⟨k2, b2, u2⟩, e2, h⟩ := rb_i h
    obtain ⟨⟨v3, b3, u3⟩, e3, h⟩ := rb_i h
    have y1 := pP_i e1
    have y2 := pKnown_i e2
    have y3 := pNum_i e3
    simp only at y1 y2 y3
    have hle : a ≤ b3 := by omega
    cases h
    have ss := s.ts (y2.1.tr y3.1)
    refine ⟨?_, hle⟩
    split
    · exact ss
    · refine ⟨fun z => ?_, ss.2⟩
      have z' : uW u3 = 0 := z
      obtain ⟨s1, s2, s3, s4, s5, s6, s7⟩ := ss.1 z'
      refine ⟨s1, s2, s3, s4, fun m z0 z1 => ?_, s6, s7⟩
      show 0 ≤ up1 (tDye (uT u3)) k2 v3 m ∧ up1 (tDye (uT u3)) k2 v3 m ≤ 9
      unfold up1
      split
      · exact y3.2.2.2.2.2 z'
      · exact s5 m z0 z1
  split at h
  · obtain ⟨b1, e1, h⟩ := rb_i h
    obtain ⟨⟨v3, b3, u3⟩, e3, h⟩ := rb_i h
    have y1 := pP_i e1
    have y3 := pNum_i e3
    have hle : a ≤ b3 := by omega
    cases h
    have ss := s.ts y3.1
    refine ⟨⟨fun z => ?_, ss.2⟩, hle⟩
    have z' : uW u3 = 0 := z
    obtain ⟨s1, s2, s3, s4⟩ := ss.1 z'
    exact ⟨s1, s2, y3.2.2.2.2.2 z', s4⟩
  · cases h
theorem PsR_0 : PsR u0 := by
  refine ⟨fun _ => ⟨⟨by decide, by decide⟩, ⟨by decide, by decide⟩, ⟨by decide, by decide⟩, fun p z0 z1 => ?_, fun m z0 z1 => ?_, fun m z0 z1 => ?_, fun m z0 z1 => ?_⟩, fun m z0 z1 => ?_, fun la z => by cases z⟩
  · exact absurd z1 (by show ¬ p < 0; omega)
  all_goals exact absurd z1 (by show ¬ m < 0; omega)
theorem pRun_R (hV : ∀ a, K a = 2 → rg32 (V a)) : ∀ (f : Nat) (a : Int) (u u' : PS), (0 ≤ a ∧ a ≤ 400) → PsI u → PsW 400 u → PsR u → pRun K V I f a u = .inl u' → PsI u' ∧ PsR u'
  | 0, a, u, u', h0, h1, h2, h3, h => by
    simp only [pRun] at h
    cases h
  | f + 1, a, u, u', h0, h1, h2, h3, h => by
    simp only [pRun] at h
    split at h
    · cases h
      exact ⟨h1, h3⟩
    · obtain ⟨⟨a1, u1⟩, e1, h⟩ := rb_i h
      obtain ⟨a2, e2, h⟩ := rb_i h
      have y1 := pTold_I (N := 400) (fun a z0 z1 z2 z3 z4 => by omega) h0 h1 h2 e1
      have y2 := pTold_R hV h1 h3 e1
      have y3 := pM_i e2
      simp only at y3 h
      exact pRun_R hV f a2 u1 u' (by omega) y1.1 y1.2 y2.1 h
theorem pCor_i : ∀ (n : Nat) (k : Int) (T : Txt), pCor u n k = .inl T → T = uT u ∧ ∀ i, k ≤ i → i < k + n → inT (uT u) (uX u i) (uY u i)
  | 0, k, T, h => by
    simp only [pCor] at h
    cases h
    exact ⟨rfl, fun i z0 z1 => by omega⟩
  | n + 1, k, T, h => by
    simp only [pCor] at h
    split at h
    · rename_i q
      have y := pCor_i n (k + 1) T h
      refine ⟨y.1, fun i z0 z1 => ?_⟩
      by_cases e : i = k
      · rw [e]; exact ⟨q.1, q.2.1, q.2.2.1, q.2.2.2⟩
      · exact y.2 i (by omega) (by omega)
    · cases h
/-- a text that is read is in order -/
theorem pRead_I (hV : ∀ a, K a = 2 → rg32 (V a)) {T : Txt} (h : pRead K V I = .inl T) : TxtI T := by
  obtain ⟨u, e1, h⟩ := rb_i h
  obtain ⟨r1, r2⟩ := pRun_R hV 402 0 u0 u ⟨by decide, by decide⟩ PsI_0 PsW_0 PsR_0 e1
  have h9 : (if uW u ≠ 0 then .inr (uW u, uV u) else pCor u (uC u).toNat 0 : Txt ⊕ (Int × Int)) = .inl T := h
  split at h9
  · cases h9
  · rename_i q
    have y := pCor_i _ _ _ h9
    have hcb := r1.cb
    obtain ⟨s1, s2, s3, s4, s5, s6, s7⟩ := r2.1 (by omega)
    have hin : ∀ {X Y : Int}, cnO u X Y → inT (uT u) X Y := fun {X Y} z => by
      obtain ⟨i, i0, i1, i2, i3⟩ := z
      rw [← i2, ← i3]
      exact y.2 i (by omega) (by omega)
    rw [y.1]
    exact ⟨r1.1, s1, s2, s3, r1.2.1, fun m z0 z1 => ⟨hin (s6 m z0 z1), s5 m z0 z1, r1.2.2.1 m z0 z1, fun k w0 w1 => hin (s7 m z0 z1 k w0 w1), fun la z => r2.2.1 m z0 z1 la z⟩, s4, r2.2.2⟩
end PTXT2
