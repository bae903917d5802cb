/-! THREADTOWN READS: the text in the making -/
set_option maxRecDepth 100000
section TXP
variable {L L' : am_L} {h h' : am_H} {t c l m b j v : Int} {A E : Int → Int} {u : PS}
theorem SumN.pk (hb : kd L b ≠ 17 ∧ kd L b ≠ 18 ∧ kd L b ≠ 19) : ∀ (n : Nat) {a : Int} {ta : Tau}, SumN n L a ta → SumN n (am_pf L b j v) a ta
  | 0, _, _, h => h.elim
  | n + 1, a, ta, h => by
    have e : (kd L a = 17 ∨ kd L a = 18 ∨ kd L a = 19) → ∀ i, fF (am_pf L b j v) a i = fF L a i := fun z i => by
      rw [fF_pf, if_neg]
      intro q
      rw [q.1] at z
      omega
    rcases h with ⟨h1, h2⟩ | ⟨h1, h2, h3⟩ | ⟨h1, t1, t2, h2, h3, h4⟩
    · exact Or.inl ⟨h1, by rw [e (by omega)]; exact h2⟩
    · exact Or.inr (Or.inl ⟨h1, by rw [e (by omega)]; exact h2, by rw [e (by omega)]; exact h3⟩)
    · exact Or.inr (Or.inr ⟨h1, t1, t2, by rw [e (by omega)]; exact SumN.pk hb n h2, by rw [e (by omega)]; exact SumN.pk hb n h3, by rw [e (by omega)]; exact h4⟩)
/-- a cell that is no law's, nor a String -/
def okTx (L : am_L) (b : Int) : Prop := kd L b = 4 ∨ kd L b = 14 ∨ kd L b = 20 ∨ kd L b = 116 ∨ kd L b = 117
theorem LawAt.pk {a : Int} {la : Lam} (r : LawAt L a la) (hb : okTx L b) : LawAt (am_pf L b j v) a la := by
  obtain ⟨r1, n, tl, tt, te, al, at_, ae, f0, f1, f2, f3, hn, k1, l1, k2, l2, k3, l3, s1, s2, e⟩ := r
  have ne : ∀ y i, ¬ okTx L y → fF (am_pf L b j v) y i = fF L y i := fun y i z => by
    rw [fF_pf, if_neg]
    intro q
    rw [q.1] at z
    exact z hb
  have hs : kd L b ≠ 17 ∧ kd L b ≠ 18 ∧ kd L b ≠ 19 := by unfold okTx at hb; omega
  have n0 : ¬ okTx L a := by unfold okTx; omega
  have n1 : ¬ okTx L al := by unfold okTx; omega
  have n2 : ¬ okTx L at_ := by unfold okTx; omega
  have n3 : ¬ okTx L ae := by unfold okTx; omega
  refine ⟨r1, n, tl, tt, te, al, at_, ae, (ne _ _ n0).trans f0, (ne _ _ n0).trans f1, (ne _ _ n0).trans f2, (ne _ _ n0).trans f3, hn, k1, l1, k2, l2, k3, l3, fun k z0 z1 => ?_, fun k z0 z1 => ?_, e⟩
  · rw [ne _ _ n1, ne _ _ n2]
    exact ⟨SumN.pk hs _ (s1 k z0 z1).1, SumN.pk hs _ (s1 k z0 z1).2⟩
  · rw [ne _ _ n3]
    exact SumN.pk hs _ (s2 k z0 z1)
def LwO (L : am_L) (ol : Option Lam) (p : Int) : Prop := (ol = none ∧ p = 0) ∨ ∃ la, ol = some la ∧ LawAt L p la
theorem LwO.pk {ol : Option Lam} {p : Int} (r : LwO L ol p) (hb : okTx L b) : LwO (am_pf L b j v) ol p := by
  rcases r with q | ⟨la, q1, q2⟩
  · exact Or.inl q
  · exact Or.inr ⟨la, q1, q2.pk hb⟩
theorem LwO.lb {ol : Option Lam} {p : Int} (r : LwO L ol p) (hw : hwL L c) (hl : LB L L' c) : LwO L' ol p := by
  rcases r with q | ⟨la, q1, q2⟩
  · exact Or.inl q
  · exact Or.inr ⟨la, q1, q2.lb hw hl⟩
/-- the m-th man -/
def MnP (L : am_L) (h : am_H) (t : Int) (A E : Int → Int) (u : PS) (m : Int) : Prop :=
  kd L (A m) = 14 ∧ (t + 6 < A m ∧ A m < E m) ∧ NmL L h (fF L (A m) 0) (uN u m) ∧ (fF L (A m) 1 = E m ∧ fF L (A m) 2 = E m + 1) ∧ (fF L (A m) 3 = tDX (uT u) m ∧ fF L (A m) 4 = tDY (uT u) m ∧ fF L (A m) 5 = tE (uT u) m ∧ fF L (A m) 6 = tDye (uT u) m) ∧
  (kd L (E m) = 117 ∧ ln L (E m) = 6) ∧ (kd L (E m + 1) = 117 ∧ ln L (E m + 1) = 6) ∧ (∀ k, 0 ≤ k → k < tE (uT u) m → fF L (E m) k = tEX (uT u) m k ∧ fF L (E m + 1) k = tEY (uT u) m k) ∧ LwO L (tG (uT u) m) (fF L (A m) 7)
theorem MnP.pk (r : MnP L h t A E u m) (hb : okTx L b) (h1 : b ≠ A m) (h2 : b ≠ E m) (h3 : b ≠ E m + 1) : MnP (am_pf L b j v) h t A E u m := by
  obtain ⟨r1, r2, r3, r4, r5, r6, r7, r8, r9⟩ := r
  have e : ∀ y i, b ≠ y → fF (am_pf L b j v) y i = fF L y i := fun y i z => by rw [fF_pf, if_neg (fun q => z q.1.symm)]
  refine ⟨r1, r2, ?_, ?_, ?_, r6, r7, fun k z0 z1 => ?_, ?_⟩
  · rw [e _ _ h1]
    exact r3.pf (by unfold okTx at hb; omega)
  · rw [e _ _ h1, e _ _ h1]; exact r4
  · rw [e _ _ h1, e _ _ h1, e _ _ h1, e _ _ h1]; exact r5
  · rw [e _ _ h2, e _ _ h3]; exact r8 k z0 z1
  · rw [e _ _ h1]; exact r9.pk hb
theorem MnP.lb (r : MnP L h t A E u m) (wf : am_Wf L h) (hl : LB L L' (nx L)) (hh : ∀ a, a < nx L → h' a = h a) : MnP L' h' t A E u m := by
  obtain ⟨r1, r2, r3, r4, r5, r6, r7, r8, r9⟩ := r
  have hw := hwL.of wf
  have e0 := hl (A m) (hw _ (by omega))
  have e1 := hl (E m) (hw _ (by omega))
  have e2 := hl (E m + 1) (hw _ (by omega))
  refine ⟨e0.1.trans r1, r2, ?_, ?_, ?_, ⟨e1.1.trans r6.1, e1.2.1.trans r6.2⟩, ⟨e2.1.trans r7.1, e2.2.1.trans r7.2⟩, fun k z0 z1 => ?_, ?_⟩
  · rw [e0.2.2]; exact r3.up wf hl hh
  · rw [e0.2.2, e0.2.2]; exact r4
  · rw [e0.2.2, e0.2.2, e0.2.2, e0.2.2]; exact r5
  · rw [e1.2.2, e2.2.2]; exact r8 k z0 z1
  · rw [e0.2.2]; exact r9.lb hw hl
/-- another text that has the same of man m -/
theorem MnP.cg {u' : PS} (r : MnP L h t A E u m) (e1 : uN u' m = uN u m) (e2 : tDX (uT u') m = tDX (uT u) m) (e3 : tDY (uT u') m = tDY (uT u) m) (e4 : tE (uT u') m = tE (uT u) m) (e5 : tDye (uT u') m = tDye (uT u) m) (e6 : ∀ k, tEX (uT u') m k = tEX (uT u) m k ∧ tEY (uT u') m k = tEY (uT u) m k) (e7 : tG (uT u') m = tG (uT u) m) : MnP L h t A E u' m := by
  obtain ⟨r1, r2, r3, r4, r5, r6, r7, r8, r9⟩ := r
  refine ⟨r1, r2, by rw [e1]; exact r3, r4, by rw [e2, e3, e4, e5]; exact r5, r6, r7, fun k z0 z1 => ?_, by rw [e7]; exact r9⟩
  rw [(e6 k).1, (e6 k).2]
  exact r8 k z0 (by rw [← e4]; exact z1)
/-- the text at t, but for its men -/
def TxA (L : am_L) (t l : Int) (u : PS) : Prop :=
  kd L t = 4 ∧ (fF L t 0 = t + 1 ∧ fF L t 1 = t + 2 ∧ fF L t 2 = t + 3 ∧ fF L t 3 = t + 4 ∧ fF L t 4 = t + 5 ∧ fF L t 5 = t + 6) ∧ (fF L t 6 = tWide (uT u) ∧ fF L t 7 = tDeep (uT u) ∧ fF L t 8 = tP (uT u) ∧ fF L t 9 = uC u ∧ fF L t 10 = tSeed (uT u)) ∧ LwO L (tL (uT u)) (fF L t 11) ∧
  (kd L (t + 1) = 20 ∧ fF L (t + 1) 1 = l ∧ fF L (t + 1) 2 = tM (uT u) ∧ fF L (t + 1) 0 = tM (uT u)) ∧ kd L l = 116 ∧ ((tM (uT u) = 0 ∧ l = 1 ∧ ln L l = 0) ∨ (t + 6 < l ∧ ln L l = 10)) ∧
  ((kd L (t + 2) = 117 ∧ ln L (t + 2) = 6) ∧ (kd L (t + 3) = 117 ∧ ln L (t + 3) = 6) ∧ (kd L (t + 4) = 117 ∧ ln L (t + 4) = 49) ∧ (kd L (t + 5) = 117 ∧ ln L (t + 5) = 49) ∧ (kd L (t + 6) = 117 ∧ ln L (t + 6) = 49)) ∧
  (∀ p, 0 ≤ p → p < tP (uT u) → fF L (t + 2) p = tPX (uT u) p ∧ fF L (t + 3) p = tPY (uT u) p) ∧ (∀ i, 0 ≤ i → i < uC u → fF L (t + 4) i = uX u i ∧ fF L (t + 5) i = uY u i ∧ fF L (t + 6) i = uK u i)
/-- the text at t, its men -/
def TxM (L : am_L) (h : am_H) (t l : Int) (A E : Int → Int) (u : PS) : Prop := (∀ m, 0 ≤ m → m < tM (uT u) → fF L l m = A m ∧ MnP L h t A E u m) ∧ ∀ m m', 0 ≤ m → m < m' → m' < tM (uT u) → E m + 1 < A m'
def TxP (L : am_L) (h : am_H) (t : Int) (u : PS) : Prop := 200 ≤ t ∧ ∃ l A E, TxA L t l u ∧ TxM L h t l A E u
theorem TxA.lb (r : TxA L t l u) (hw : hwL L c) (hl : LB L L' c) : TxA L' t l u := by
  obtain ⟨r1, r2, r3, r4, r5, r6, r7, r8, r9, r10⟩ := r
  have e0 := hl t (hw _ (by omega))
  have e1 := hl (t + 1) (hw _ (by omega))
  have e2 := hl (t + 2) (hw _ (by omega))
  have e3 := hl (t + 3) (hw _ (by omega))
  have e4 := hl (t + 4) (hw _ (by omega))
  have e5 := hl (t + 5) (hw _ (by omega))
  have e6 := hl (t + 6) (hw _ (by omega))
  have el := hl l (hw _ (by omega))
  unfold TxA
  rw [e0.1, e1.1, e2.1, e3.1, e4.1, e5.1, e6.1, el.1, el.2.1, e2.2.1, e3.2.1, e4.2.1, e5.2.1, e6.2.1]
  simp only [e0.2.2, e1.2.2, e2.2.2, e3.2.2, e4.2.2, e5.2.2, e6.2.2]
  exact ⟨r1, r2, r3, r4.lb hw hl, r5, r6, r7, r8, r9, r10⟩
theorem TxP.up (r : TxP L h t u) (wf : am_Wf L h) (hl : LB L L' (nx L)) (hh : ∀ a, a < nx L → h' a = h a) : TxP L' h' t u := by
  obtain ⟨r0, l, A, E, r1, r2, r3⟩ := r
  have hw := hwL.of wf
  have hk : kd L l = 116 := r1.2.2.2.2.2.1
  have el := hl l (hw _ (by omega))
  exact ⟨r0, l, A, E, r1.lb hw hl, fun m z0 z1 => ⟨(el.2.2 _).trans (r2 m z0 z1).1, (r2 m z0 z1).2.lb wf hl hh⟩, r3⟩
theorem TxP.kt (r : TxP L h t u) : kd L t = 4 := by
  obtain ⟨-, l, A, E, r1, -⟩ := r
  exact r1.1
/-- a number of the text itself: field j -/
theorem TxP.ft {u' : PS} (r : TxP L h t u) (hj : j = 6 ∨ j = 7 ∨ j = 8 ∨ j = 9 ∨ j = 10) (e0 : tM (uT u') = tM (uT u)) (eL : tL (uT u') = tL (uT u)) (eP : tP (uT u') = tP (uT u)) (eC : uC u' = uC u) (e6 : tWide (uT u') = if j = 6 then v else tWide (uT u)) (e7 : tDeep (uT u') = if j = 7 then v else tDeep (uT u)) (e10 : tSeed (uT u') = if j = 10 then v else tSeed (uT u)) (hj2 : j ≠ 8 ∧ j ≠ 9) (ep : tPX (uT u') = tPX (uT u) ∧ tPY (uT u') = tPY (uT u)) (ec : uX u' = uX u ∧ uY u' = uY u ∧ uK u' = uK u) (eM2 : ∀ A E m, MnP (am_pf L t j v) h t A E u m → MnP (am_pf L t j v) h t A E u' m) : TxP (am_pf L t j v) h t u' := by
  obtain ⟨r0, l, A, E, ⟨r1, r2, r3, r4, r5, r6, r7, r8, r9, r10⟩, s1, s2⟩ := r
  have hb : okTx L t := Or.inl r1
  have ne : ∀ y i, y ≠ t → fF (am_pf L t j v) y i = fF L y i := fun y i z => by rw [fF_pf, if_neg (fun q => z q.1)]
  have nt : ∀ i, i ≠ j → fF (am_pf L t j v) t i = fF L t i := fun i z => by rw [fF_pf, if_neg (fun q => z q.2)]
  have nv : fF (am_pf L t j v) t j = v := by rw [fF_pf, if_pos ⟨rfl, rfl⟩]
  have hl : l ≠ t := by intro z; rw [z] at r6; omega
  refine ⟨r0, l, A, E, ⟨r1, ?_, ?_, ?_, ?_, r6, ?_, r8, fun p z0 z1 => ?_, fun i z0 z1 => ?_⟩, fun m z0 z1 => ⟨?_, ?_⟩, fun m m' z0 z1 z2 => s2 m m' z0 z1 (by omega)⟩
  · rw [nt _ (by omega), nt _ (by omega), nt _ (by omega), nt _ (by omega), nt _ (by omega), nt _ (by omega)]; exact r2
  · rw [e6, e7, e10, eP, eC, nt 8 (by omega), nt 9 (by omega)]
    refine ⟨?_, ?_, r3.2.2.1, r3.2.2.2.1, ?_⟩
    · by_cases q : j = 6
      · rw [if_pos q, ← q]; exact nv
      · rw [if_neg q, nt _ (Ne.symm q)]; exact r3.1
    · by_cases q : j = 7
      · rw [if_pos q, ← q]; exact nv
      · rw [if_neg q, nt _ (Ne.symm q)]; exact r3.2.1
    · by_cases q : j = 10
      · rw [if_pos q, ← q]; exact nv
      · rw [if_neg q, nt _ (Ne.symm q)]; exact r3.2.2.2.2
  · rw [eL, nt _ (by omega)]; exact r4.pk hb
  · rw [e0, ne _ _ (by omega), ne _ _ (by omega), ne _ _ (by omega)]; exact r5
  · rw [e0]; exact r7
  · rw [ep.1, ep.2, ne _ _ (by omega), ne _ _ (by omega)]; exact r9 p z0 (by omega)
  · rw [ec.1, ec.2.1, ec.2.2, ne _ _ (by omega), ne _ _ (by omega), ne _ _ (by omega)]; exact r10 i z0 (by omega)
  · rw [ne _ _ hl]; exact (s1 m z0 (by omega)).1
  · have hm := (s1 m z0 (by omega)).2
    have ha := hm.2.1
    exact eM2 A E m (hm.pk hb (by omega) (by omega) (by omega))
theorem TxP.hh (r : TxP L h t u) (hh : ∀ y, kd L y = 101 → h' y = h y) : TxP L h' t u := by
  obtain ⟨r0, l, A, E, r1, r2, r3⟩ := r
  refine ⟨r0, l, A, E, r1, fun m z0 z1 => ⟨(r2 m z0 z1).1, ?_⟩, r3⟩
  obtain ⟨s1, s2, s3, s4⟩ := (r2 m z0 z1).2
  refine ⟨s1, s2, ?_, s4⟩
  obtain ⟨n1, n2, n3, n4, n5, n6, n7⟩ := s3
  refine ⟨n1, n2, n3, n4, n5, ?_, ?_⟩
  · rw [hh _ n4]; exact n6
  · rw [hh _ n4]; exact n7
theorem TxP.tell {n tk : Int} (r : TxP L h t u) : TxP L h t (pTell n tk u) := by
  unfold pTell
  split
  · exact r
  · exact r
theorem TxP.ls (r : TxP L h t u) (h0 : 0 ≤ tM (uT u) ∧ tM (uT u) ≤ 7) : LsL L (t + 1) (tM (uT u)) (fun m => fF L (fF L (t + 1) 1) m) := by
  obtain ⟨r0, l, A, E, ⟨-, -, -, -, ⟨r5, r6, r7, -⟩, r8, r9, -⟩, s1, s2⟩ := r
  exact ⟨r5, r7, h0.1, by rw [r6]; exact r8, by rw [r6]; omega, fun _ _ _ => rfl⟩
/-- where the k-th man is -/
def manP (L : am_L) (t k : Int) : Int := fF L (fF L (t + 1) 1) k
theorem TxP.man {k : Int} (r : TxP L h t u) (h0 : 0 ≤ k) (h1 : k < tM (uT u)) : kd L (manP L t k) = 14 ∧ NmL L h (fF L (manP L t k) 0) (uN u k) ∧ t + 6 < manP L t k ∧ fF L (manP L t k) 5 = tE (uT u) k ∧ (kd L (fF L (manP L t k) 1) = 117 ∧ ln L (fF L (manP L t k) 1) = 6) ∧ (kd L (fF L (manP L t k) 2) = 117 ∧ ln L (fF L (manP L t k) 2) = 6) ∧ fF L (manP L t k) 2 = fF L (manP L t k) 1 + 1 ∧ t + 6 < fF L (manP L t k) 1 := by
  obtain ⟨r0, l, A, E, ⟨-, -, -, -, ⟨r5, r6, r7, -⟩, r8, r9, -⟩, s1, s2⟩ := r
  obtain ⟨e, m1, m2, m3, m4, m5, m6, m7, m8⟩ := s1 k h0 h1
  unfold manP
  rw [r6, e]
  rw [m4.1, m4.2]
  exact ⟨m1, m3, m2.1, m5.2.2.1, m6, m7, rfl, by omega⟩
end TXP
