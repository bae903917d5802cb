/-! THREADTOWN READS: what each order does to the text in the making -/
set_option maxRecDepth 100000
section TXOP
variable {L L' : am_L} {h h' : am_H} {t c l m b j v p k s n : Int} {A E : Int → Int} {u u' : PS}
theorem pf_ne {y i : Int} (z : y ≠ b) : fF (am_pf L b j v) y i = fF L y i := by rw [fF_pf, if_neg (fun q => z q.1)]
theorem pf_nj {i : Int} (z : i ≠ j) : fF (am_pf L b j v) b i = fF L b i := by rw [fF_pf, if_neg (fun q => z q.2)]
theorem pf_eq : fF (am_pf L b j v) b j = v := by rw [fF_pf, if_pos ⟨rfl, rfl⟩]
theorem pf_up {q : Int} : fF (am_pf L b j v) b q = up1 (fF L b) j v q := by
  rw [fF_pf]
  unfold up1
  by_cases w : q = j
  · rw [if_pos ⟨rfl, w⟩, if_pos w]
  · rw [if_neg (fun z => w z.2), if_neg w]
theorem up1_cg {f g : Int → Int} {q : Int} (w : q ≠ j → f q = g q) : up1 f j v q = up1 g j v q := by
  unfold up1
  split
  · rfl
  · exact w (by assumption)
theorem TxA.lt (r : TxA L t l u) (h200 : 200 ≤ t) : l < t ∨ t + 6 < l := by
  obtain ⟨-, -, -, -, -, -, r7, -⟩ := r
  omega
theorem TxA.pk (r : TxA L t l u) (hb : okTx L b) (h1 : b < t ∨ t + 6 < b) (h2 : b ≠ l) : TxA (am_pf L b j v) t l u := by
  obtain ⟨r1, r2, r3, r4, r5, r6, r7, r8, r9, r10⟩ := r
  have e0 : ∀ i, fF (am_pf L b j v) t i = fF L t i := fun i => pf_ne (by omega)
  have e1 : ∀ i, fF (am_pf L b j v) (t + 1) i = fF L (t + 1) i := fun i => pf_ne (by omega)
  have e2 : ∀ i, fF (am_pf L b j v) (t + 2) i = fF L (t + 2) i := fun i => pf_ne (by omega)
  have e3 : ∀ i, fF (am_pf L b j v) (t + 3) i = fF L (t + 3) i := fun i => pf_ne (by omega)
  have e4 : ∀ i, fF (am_pf L b j v) (t + 4) i = fF L (t + 4) i := fun i => pf_ne (by omega)
  have e5 : ∀ i, fF (am_pf L b j v) (t + 5) i = fF L (t + 5) i := fun i => pf_ne (by omega)
  have e6 : ∀ i, fF (am_pf L b j v) (t + 6) i = fF L (t + 6) i := fun i => pf_ne (by omega)
  unfold TxA
  simp only [e0, e1, e2, e3, e4, e5, e6]
  exact ⟨r1, r2, r3, r4.pk hb, r5, r6, r7, r8, r9, r10⟩
theorem TxM.pk (r : TxM L h t l A E u) (hb : okTx L b) (h1 : ∀ m, 0 ≤ m → m < tM (uT u) → b ≠ A m ∧ b ≠ E m ∧ b ≠ E m + 1) (h2 : b ≠ l) : TxM (am_pf L b j v) h t l A E u :=
  ⟨fun m z0 z1 => ⟨(pf_ne (Ne.symm h2)).trans (r.1 m z0 z1).1, (r.1 m z0 z1).2.pk hb (h1 m z0 z1).1 (h1 m z0 z1).2.1 (h1 m z0 z1).2.2⟩, r.2⟩
theorem TxM.low (r : TxM L h t l A E u) (hb : okTx L b) (h1 : b ≤ t + 6) (h2 : b ≠ l) : TxM (am_pf L b j v) h t l A E u :=
  r.pk hb (fun m z0 z1 => by have := (r.1 m z0 z1).2.2.1; exact ⟨by omega, by omega, by omega⟩) h2
/-- a cell of the k-th man -/
theorem TxM.mn (r : TxM L h t l A E u) (h0 : 0 ≤ k) (h1 : k < tM (uT u)) (hb : okTx L b) (hc : b = A k ∨ b = E k ∨ b = E k + 1) (h2 : b ≠ l) (hM : tM (uT u') = tM (uT u)) (hm : ∀ m L, m ≠ k → MnP L h t A E u m → MnP L h t A E u' m) (hk : MnP (am_pf L b j v) h t A E u' k) : TxM (am_pf L b j v) h t l A E u' := by
  refine ⟨fun m z0 z1 => ⟨(pf_ne (Ne.symm h2)).trans (r.1 m z0 (by omega)).1, ?_⟩, fun m m' z0 z1 z2 => r.2 m m' z0 z1 (by omega)⟩
  by_cases q : m = k
  · rw [q]; exact hk
  · have hb1 := (r.1 m z0 (by omega)).2
    have hb2 := (r.1 k h0 h1).2.2.1
    have hb3 := hb1.2.1
    have hb4 : m < k → E m + 1 < A k := fun z => r.2 m k z0 z h1
    have hb5 : k < m → E k + 1 < A m := fun z => r.2 k m h0 z (by omega)
    exact hm m _ q (hb1.pk hb (by omega) (by omega) (by omega))
theorem TxA.long {la : Lam} (r : TxA L t l u) (h200 : 200 ≤ t) (hla : LawAt L p la) : TxA (am_pf L t 11 p) t l (uT' u (tLong' (uT u) la)) := by
  have hl := r.lt h200
  obtain ⟨r1, r2, r3, r4, r5, r6, r7, r8, r9, r10⟩ := r
  have e0 : ∀ i, i ≠ 11 → fF (am_pf L t 11 p) t i = fF L t i := fun i z => pf_nj z
  have e1 : ∀ i, fF (am_pf L t 11 p) (t + 1) i = fF L (t + 1) i := fun i => pf_ne (by omega)
  have e2 : ∀ i, fF (am_pf L t 11 p) (t + 2) i = fF L (t + 2) i := fun i => pf_ne (by omega)
  have e3 : ∀ i, fF (am_pf L t 11 p) (t + 3) i = fF L (t + 3) i := fun i => pf_ne (by omega)
  have e4 : ∀ i, fF (am_pf L t 11 p) (t + 4) i = fF L (t + 4) i := fun i => pf_ne (by omega)
  have e5 : ∀ i, fF (am_pf L t 11 p) (t + 5) i = fF L (t + 5) i := fun i => pf_ne (by omega)
  have e6 : ∀ i, fF (am_pf L t 11 p) (t + 6) i = fF L (t + 6) i := fun i => pf_ne (by omega)
  unfold TxA
  simp only [e1, e2, e3, e4, e5, e6]
  rw [e0 0 (by decide), e0 1 (by decide), e0 2 (by decide), e0 3 (by decide), e0 4 (by decide), e0 5 (by decide), e0 6 (by decide), e0 7 (by decide), e0 8 (by decide), e0 9 (by decide), e0 10 (by decide), pf_eq]
  exact ⟨r1, r2, r3, Or.inr ⟨la, rfl, hla.pk (Or.inl r1)⟩, r5, r6, r7, r8, r9, r10⟩
theorem TxP.long {la : Lam} (r : TxP L h t u) (hla : LawAt L p la) : TxP (am_pf L t 11 p) h t (uT' u (tLong' (uT u) la)) := by
  obtain ⟨r0, l, A, E, r1, r2⟩ := r
  have hl := r1.lt r0
  exact ⟨r0, l, A, E, r1.long r0 hla, r2.low (Or.inl r1.1) (by omega) (by omega)⟩
theorem TxA.pil {i1 i2 : Int} (r : TxA L t l u) (h200 : 200 ≤ t) : TxA (am_pf (am_pf (am_pf L (t + 2) (tP (uT u)) i1) (t + 3) (tP (uT u)) i2) t 8 (tP (uT u) + 1)) t l (uT' u (tPil' (uT u) i1 i2)) := by
  have hl := r.lt h200
  obtain ⟨r1, r2, r3, r4, r5, r6, r7, r8, r9, r10⟩ := r
  have ee : ∀ {y i : Int}, y ≠ t → y ≠ t + 3 → y ≠ t + 2 → fF (am_pf (am_pf (am_pf L (t + 2) (tP (uT u)) i1) (t + 3) (tP (uT u)) i2) t 8 (tP (uT u) + 1)) y i = fF L y i := fun z1 z2 z3 => ((pf_ne z1).trans (pf_ne z2)).trans (pf_ne z3)
  have e0 : ∀ i, i ≠ 8 → fF (am_pf (am_pf (am_pf L (t + 2) (tP (uT u)) i1) (t + 3) (tP (uT u)) i2) t 8 (tP (uT u) + 1)) t i = fF L t i := fun i z => ((pf_nj z).trans (pf_ne (by omega))).trans (pf_ne (by omega))
  have e1 : ∀ i, fF (am_pf (am_pf (am_pf L (t + 2) (tP (uT u)) i1) (t + 3) (tP (uT u)) i2) t 8 (tP (uT u) + 1)) (t + 1) i = fF L (t + 1) i := fun i => ee (by omega) (by omega) (by omega)
  have e4 : ∀ i, fF (am_pf (am_pf (am_pf L (t + 2) (tP (uT u)) i1) (t + 3) (tP (uT u)) i2) t 8 (tP (uT u) + 1)) (t + 4) i = fF L (t + 4) i := fun i => ee (by omega) (by omega) (by omega)
  have e5 : ∀ i, fF (am_pf (am_pf (am_pf L (t + 2) (tP (uT u)) i1) (t + 3) (tP (uT u)) i2) t 8 (tP (uT u) + 1)) (t + 5) i = fF L (t + 5) i := fun i => ee (by omega) (by omega) (by omega)
  have e6 : ∀ i, fF (am_pf (am_pf (am_pf L (t + 2) (tP (uT u)) i1) (t + 3) (tP (uT u)) i2) t 8 (tP (uT u) + 1)) (t + 6) i = fF L (t + 6) i := fun i => ee (by omega) (by omega) (by omega)
  have hb2 : okTx L (t + 2) := by unfold okTx; omega
  have hb3 : okTx L (t + 3) := by unfold okTx; omega
  unfold TxA
  simp only [e1, e4, e5, e6]
  rw [e0 0 (by decide), e0 1 (by decide), e0 2 (by decide), e0 3 (by decide), e0 4 (by decide), e0 5 (by decide), e0 6 (by decide), e0 7 (by decide), e0 9 (by decide), e0 10 (by decide), e0 11 (by decide), pf_eq]
  refine ⟨r1, r2, ⟨r3.1, r3.2.1, rfl, r3.2.2.2⟩, ((r4.pk hb2).pk (L := am_pf L (t + 2) _ _) hb3).pk (L := am_pf (am_pf L (t + 2) _ _) (t + 3) _ _) (Or.inl r1), r5, r6, r7, r8, fun q z0 z1 => ?_, r10⟩
  have z1' : q < tP (uT u) + 1 := z1
  show _ = up1 (tPX (uT u)) (tP (uT u)) i1 q ∧ _ = up1 (tPY (uT u)) (tP (uT u)) i2 q
  exact ⟨(((pf_ne (by omega)).trans (pf_ne (by omega))).trans pf_up).trans (up1_cg fun w => (r9 q z0 (by omega)).1), (((pf_ne (by omega)).trans pf_up).trans (up1_cg fun w => (pf_ne (by omega)).trans (r9 q z0 (by omega)).2))⟩
theorem TxP.pil {i1 i2 : Int} (r : TxP L h t u) : TxP (am_pf (am_pf (am_pf L (t + 2) (tP (uT u)) i1) (t + 3) (tP (uT u)) i2) t 8 (tP (uT u) + 1)) h t (uT' u (tPil' (uT u) i1 i2)) := by
  obtain ⟨r0, l, A, E, r1, r2⟩ := r
  have hl := r1.lt r0
  have hb0 : okTx L t := Or.inl r1.1
  obtain ⟨-, -, -, -, -, -, -, k, -⟩ := id r1
  have hb2 : okTx L (t + 2) := by unfold okTx; omega
  have hb3 : okTx L (t + 3) := by unfold okTx; omega
  exact ⟨r0, l, A, E, r1.pil r0, ((r2.low hb2 (by omega) (by omega)).low (L := am_pf L (t + 2) _ _) hb3 (by omega) (by omega)).low (L := am_pf (am_pf L (t + 2) _ _) (t + 3) _ _) hb0 (by omega) (by omega)⟩
theorem TxA.note {i1 i2 tk : Int} (r : TxA L t l u) (h200 : 200 ≤ t) : TxA (am_pf (am_pf (am_pf (am_pf L (t + 4) (uC u) i1) (t + 5) (uC u) i2) (t + 6) (uC u) tk) t 9 (uC u + 1)) t l (uCor' u i1 i2 tk) := by
  have hl := r.lt h200
  obtain ⟨r1, r2, r3, r4, r5, r6, r7, r8, r9, r10⟩ := r
  have ee : ∀ {y i : Int}, y ≠ t → y ≠ t + 6 → y ≠ t + 5 → y ≠ t + 4 → fF (am_pf (am_pf (am_pf (am_pf L (t + 4) (uC u) i1) (t + 5) (uC u) i2) (t + 6) (uC u) tk) t 9 (uC u + 1)) y i = fF L y i := fun z1 z2 z3 z4 => (((pf_ne z1).trans (pf_ne z2)).trans (pf_ne z3)).trans (pf_ne z4)
  have e0 : ∀ i, i ≠ 9 → fF (am_pf (am_pf (am_pf (am_pf L (t + 4) (uC u) i1) (t + 5) (uC u) i2) (t + 6) (uC u) tk) t 9 (uC u + 1)) t i = fF L t i := fun i z => (((pf_nj z).trans (pf_ne (by omega))).trans (pf_ne (by omega))).trans (pf_ne (by omega))
  have e1 : ∀ i, fF (am_pf (am_pf (am_pf (am_pf L (t + 4) (uC u) i1) (t + 5) (uC u) i2) (t + 6) (uC u) tk) t 9 (uC u + 1)) (t + 1) i = fF L (t + 1) i := fun i => ee (by omega) (by omega) (by omega) (by omega)
  have e2 : ∀ i, fF (am_pf (am_pf (am_pf (am_pf L (t + 4) (uC u) i1) (t + 5) (uC u) i2) (t + 6) (uC u) tk) t 9 (uC u + 1)) (t + 2) i = fF L (t + 2) i := fun i => ee (by omega) (by omega) (by omega) (by omega)
  have e3 : ∀ i, fF (am_pf (am_pf (am_pf (am_pf L (t + 4) (uC u) i1) (t + 5) (uC u) i2) (t + 6) (uC u) tk) t 9 (uC u + 1)) (t + 3) i = fF L (t + 3) i := fun i => ee (by omega) (by omega) (by omega) (by omega)
  have hb4 : okTx L (t + 4) := by unfold okTx; omega
  have hb5 : okTx L (t + 5) := by unfold okTx; omega
  have hb6 : okTx L (t + 6) := by unfold okTx; omega
  unfold TxA
  simp only [e1, e2, e3]
  rw [e0 0 (by decide), e0 1 (by decide), e0 2 (by decide), e0 3 (by decide), e0 4 (by decide), e0 5 (by decide), e0 6 (by decide), e0 7 (by decide), e0 8 (by decide), e0 10 (by decide), e0 11 (by decide), pf_eq]
  refine ⟨r1, r2, ⟨r3.1, r3.2.1, r3.2.2.1, rfl, r3.2.2.2.2⟩, (((r4.pk hb4).pk (L := am_pf L (t + 4) _ _) hb5).pk (L := am_pf (am_pf L (t + 4) _ _) (t + 5) _ _) hb6).pk (L := am_pf (am_pf (am_pf L (t + 4) _ _) (t + 5) _ _) (t + 6) _ _) (Or.inl r1), r5, r6, r7, r8, r9, fun q z0 z1 => ?_⟩
  have z1' : q < uC u + 1 := z1
  show _ = up1 (uX u) (uC u) i1 q ∧ _ = up1 (uY u) (uC u) i2 q ∧ _ = up1 (uK u) (uC u) tk q
  exact ⟨((((pf_ne (by omega)).trans (pf_ne (by omega))).trans (pf_ne (by omega))).trans pf_up).trans (up1_cg fun w => (r10 q z0 (by omega)).1), (((pf_ne (by omega)).trans (pf_ne (by omega))).trans pf_up).trans (up1_cg fun w => (pf_ne (by omega)).trans (r10 q z0 (by omega)).2.1), ((pf_ne (by omega)).trans pf_up).trans (up1_cg fun w => ((pf_ne (by omega)).trans (pf_ne (by omega))).trans (r10 q z0 (by omega)).2.2)⟩
theorem TxM.note {i1 i2 tk : Int} (r2 : TxM L h t l A E u) (r1 : TxA L t l u) (r0 : 200 ≤ t) : TxM (am_pf (am_pf (am_pf (am_pf L (t + 4) (uC u) i1) (t + 5) (uC u) i2) (t + 6) (uC u) tk) t 9 (uC u + 1)) h t l A E (uCor' u i1 i2 tk) := by
  have hl := r1.lt r0
  have hb0 : okTx L t := Or.inl r1.1
  obtain ⟨-, -, -, -, -, -, -, k, -⟩ := id r1
  have hb4 : okTx L (t + 4) := by unfold okTx; omega
  have hb5 : okTx L (t + 5) := by unfold okTx; omega
  have hb6 : okTx L (t + 6) := by unfold okTx; omega
  exact (((r2.low hb4 (by omega) (by omega)).low (L := am_pf L (t + 4) _ _) hb5 (by omega) (by omega)).low (L := am_pf (am_pf L (t + 4) _ _) (t + 5) _ _) hb6 (by omega) (by omega)).low (L := am_pf (am_pf (am_pf L (t + 4) _ _) (t + 5) _ _) (t + 6) _ _) hb0 (by omega) (by omega)
theorem TxP.note {i1 i2 tk : Int} (r : TxP L h t u) : TxP (am_pf (am_pf (am_pf (am_pf L (t + 4) (uC u) i1) (t + 5) (uC u) i2) (t + 6) (uC u) tk) t 9 (uC u + 1)) h t (uCor' u i1 i2 tk) := by
  obtain ⟨r0, l, A, E, r1, r2⟩ := r
  exact ⟨r0, l, A, E, r1.note r0, r2.note r1 r0⟩
end TXOP
