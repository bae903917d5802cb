/-! THREADTOWN READS: what each order does to the men in the making -/
set_option maxRecDepth 100000
section TXOP2
variable {L L' : am_L} {h h' : am_H} {t c e l l' m b j v p k s n id i1 i2 : Int} {A E : Int → Int} {u u' : PS}
theorem TxM.at (r : TxM L h t l A E u) (r1 : TxA L t l u) (h0 : 0 ≤ k) (h1 : k < tM (uT u)) : manP L t k = A k ∧ fF L (manP L t k) 1 = E k ∧ fF L (manP L t k) 2 = E k + 1 := by
  obtain ⟨e, m1, m2, m3, m4, -⟩ := r.1 k h0 h1
  obtain ⟨-, -, -, -, ⟨r5, r6, r7, -⟩, -⟩ := r1
  have q : manP L t k = A k := by unfold manP; rw [r6, e]
  rw [q]
  exact ⟨rfl, m4.1, m4.2⟩
theorem TxA.lk (r : TxA L t l u) : kd L l = 116 := r.2.2.2.2.2.1
theorem TxP.goes {la : Lam} (r : TxP L h t u) (h0 : 0 ≤ k) (h1 : k < tM (uT u)) (hla : LawAt L p la) : TxP (am_pf L (manP L t k) 7 p) h t (uT' u (tGoes' (uT u) k la)) := by
  obtain ⟨r0, l, A, E, r1, r2⟩ := r
  rw [(r2.at r1 h0 h1).1]
  have hm := (r2.1 k h0 h1).2
  obtain ⟨m1, m2, m3, m4, m5, m6, m7, m8, m9⟩ := id hm
  have hb : okTx L (A k) := by unfold okTx; omega
  have hlk := r1.lk
  have hl : A k ≠ l := by intro z; rw [z] at m1; omega
  refine ⟨r0, l, A, E, r1.pk hb (by omega) hl, r2.mn h0 h1 hb (Or.inl rfl) hl rfl (fun m L q z => z.cg rfl rfl rfl rfl rfl (fun _ => ⟨rfl, rfl⟩) (if_neg q)) ?_⟩
  refine ⟨m1, m2, ?_, ?_, ?_, m6, m7, fun i z0 z1 => ?_, ?_⟩
  · rw [pf_nj (by decide)]; exact m3.pf (by omega)
  · rw [pf_nj (by decide), pf_nj (by decide)]; exact m4
  · rw [pf_nj (by decide), pf_nj (by decide), pf_nj (by decide), pf_nj (by decide)]; exact m5
  · rw [pf_ne (by omega), pf_ne (by omega)]; exact m8 i z0 z1
  · rw [pf_eq]; exact Or.inr ⟨la, if_pos rfl, hla.pk hb⟩
theorem TxP.dye (r : TxP L h t u) (h0 : 0 ≤ k) (h1 : k < tM (uT u)) : TxP (am_pf L (manP L t k) 6 v) h t (uT' u (tDye' (uT u) k v)) := by
  obtain ⟨r0, l, A, E, r1, r2⟩ := r
  rw [(r2.at r1 h0 h1).1]
  have hm := (r2.1 k h0 h1).2
  obtain ⟨m1, m2, m3, m4, m5, m6, m7, m8, m9⟩ := id hm
  have hb : okTx L (A k) := by unfold okTx; omega
  have hlk := r1.lk
  have hl : A k ≠ l := by intro z; rw [z] at m1; omega
  refine ⟨r0, l, A, E, r1.pk hb (by omega) hl, r2.mn h0 h1 hb (Or.inl rfl) hl rfl (fun m L q z => z.cg rfl rfl rfl rfl (if_neg q) (fun _ => ⟨rfl, rfl⟩) rfl) ?_⟩
  refine ⟨m1, m2, ?_, ?_, ?_, m6, m7, fun i z0 z1 => ?_, ?_⟩
  · rw [pf_nj (by decide)]; exact m3.pf (by omega)
  · rw [pf_nj (by decide), pf_nj (by decide)]; exact m4
  · rw [pf_nj (by decide), pf_nj (by decide), pf_nj (by decide), pf_eq]; exact ⟨m5.1, m5.2.1, m5.2.2.1, (if_pos rfl).symm⟩
  · rw [pf_ne (by omega), pf_ne (by omega)]; exact m8 i z0 z1
  · rw [pf_nj (by decide)]; exact m9.pk hb
theorem TxP.err (r : TxP L h t u) (h0 : 0 ≤ k) (h1 : k < tM (uT u)) : TxP (am_pf (am_pf (am_pf L (fF L (manP L t k) 1) (tE (uT u) k) i1) (fF L (manP L t k) 2) (tE (uT u) k) i2) (manP L t k) 5 (tE (uT u) k + 1)) h t (uT' u (tErr' (uT u) k i1 i2)) := by
  obtain ⟨r0, l, A, E, r1, r2⟩ := r
  have q := r2.at r1 h0 h1
  rw [q.2.1, q.2.2, q.1]
  have hm := (r2.1 k h0 h1).2
  obtain ⟨m1, m2, m3, m4, m5, m6, m7, m8, m9⟩ := id hm
  have hb : okTx L (A k) := by unfold okTx; omega
  have hb1 : okTx L (E k) := by unfold okTx; omega
  have hb2 : okTx L (E k + 1) := by unfold okTx; omega
  have hlk := r1.lk
  have hl : A k ≠ l := by intro z; rw [z] at m1; omega
  have hl1 : E k ≠ l := by intro z; rw [z] at m6; omega
  have hl2 : E k + 1 ≠ l := by intro z; rw [z] at m7; omega
  have a1 : TxA (am_pf (am_pf (am_pf L (E k) (tE (uT u) k) i1) (E k + 1) (tE (uT u) k) i2) (A k) 5 (tE (uT u) k + 1)) t l u := ((r1.pk hb1 (by omega) hl1).pk (L := am_pf L (E k) _ _) hb2 (by omega) hl2).pk (L := am_pf (am_pf L (E k) _ _) (E k + 1) _ _) hb (by omega) hl
  have g : ∀ a i, a ≠ E k → a ≠ E k + 1 → fF (am_pf (am_pf L (E k) (tE (uT u) k) i1) (E k + 1) (tE (uT u) k) i2) a i = fF L a i := fun a i z1 z2 => (pf_ne z2).trans (pf_ne z1)
  have n1 : MnP (am_pf L (E k) (tE (uT u) k) i1) h t A E u k := ⟨m1, m2, by rw [pf_ne (by omega)]; exact m3.pf (by omega), by rw [pf_ne (by omega), pf_ne (by omega)]; exact m4, by rw [pf_ne (by omega), pf_ne (by omega), pf_ne (by omega), pf_ne (by omega)]; exact m5, m6, m7, fun i z0 z1 => by rw [pf_nj (by omega), pf_ne (by omega)]; exact m8 i z0 z1, by rw [pf_ne (by omega)]; exact m9.pk hb1⟩
  have n2 : MnP (am_pf (am_pf L (E k) (tE (uT u) k) i1) (E k + 1) (tE (uT u) k) i2) h t A E u k := ⟨m1, m2, by rw [g _ _ (by omega) (by omega)]; exact (m3.pf (by omega)).pf (L := am_pf L (E k) _ _) (by show kd L (E k + 1) ≠ 21; omega), by rw [g _ _ (by omega) (by omega), g _ _ (by omega) (by omega)]; exact m4, by rw [g _ _ (by omega) (by omega), g _ _ (by omega) (by omega), g _ _ (by omega) (by omega), g _ _ (by omega) (by omega)]; exact m5, m6, m7, fun i z0 z1 => by rw [pf_ne (y := E k) (by omega), pf_nj (by omega), pf_nj (by omega), pf_ne (by omega)]; exact m8 i z0 z1, by rw [g _ _ (by omega) (by omega)]; exact (m9.pk hb1).pk (L := am_pf L (E k) _ _) hb2⟩
  have b1 := r2.mn (v := i1) (j := tE (uT u) k) h0 h1 hb1 (Or.inr (Or.inl rfl)) hl1 rfl (fun m L q z => z) n1
  have b2 := b1.mn (v := i2) (j := tE (uT u) k) h0 h1 hb2 (Or.inr (Or.inr rfl)) hl2 rfl (fun m L q z => z) n2
  refine ⟨r0, l, A, E, a1, b2.mn h0 h1 hb (Or.inl rfl) hl rfl (fun m L q z => z.cg rfl rfl rfl (if_neg q) rfl (fun _ => ⟨if_neg (fun w => q w.1), if_neg (fun w => q w.1)⟩) rfl) ?_⟩
  obtain ⟨p1, p2, p3, p4, p5, p6, p7, p8, p9⟩ := n2
  refine ⟨m1, m2, ?_, ?_, ?_, m6, m7, fun i z0 z1 => ?_, ?_⟩
  · rw [pf_nj (by decide)]; exact p3.pf (by show kd L (A k) ≠ 21; omega)
  · rw [pf_nj (by decide), pf_nj (by decide)]; exact p4
  · rw [pf_nj (i := 3) (by decide), pf_nj (i := 4) (by decide), pf_eq, pf_nj (i := 6) (by decide)]; exact ⟨p5.1, p5.2.1, (if_pos rfl).symm, p5.2.2.2⟩
  · rw [pf_ne (b := A k) (by omega), pf_ne (b := A k) (by omega)]
    have z1' : i < up1 (tE (uT u)) k (tE (uT u) k + 1) k := z1
    rw [show up1 (tE (uT u)) k (tE (uT u) k + 1) k = tE (uT u) k + 1 from if_pos rfl] at z1'
    show _ = up2 (tEX (uT u)) k (tE (uT u) k) i1 k i ∧ _ = up2 (tEY (uT u)) k (tE (uT u) k) i2 k i
    unfold up2
    by_cases w : i = tE (uT u) k
    · rw [if_pos ⟨rfl, w⟩, if_pos ⟨rfl, w⟩, w]
      exact ⟨(pf_ne (by omega)).trans pf_eq, pf_eq⟩
    · rw [if_neg (fun z => w z.2), if_neg (fun z => w z.2)]
      exact p8 i z0 (by omega)
  · rw [pf_nj (by decide)]; exact p9.pk (L := am_pf (am_pf L (E k) _ _) (E k + 1) _ _) hb
/-- the text in the making, all of whose men stand before c -/
def TxC (L : am_L) (h : am_H) (t : Int) (u : PS) (c : Int) : Prop := 200 ≤ t ∧ t + 6 < c ∧ ∃ l A E, TxA L t l u ∧ TxM L h t l A E u ∧ ∀ m, 0 ≤ m → m < tM (uT u) → E m + 1 < c
theorem TxC.tp (r : TxC L h t u c) : TxP L h t u := by
  obtain ⟨r0, -, l, A, E, r1, r2, -⟩ := r
  exact ⟨r0, l, A, E, r1, r2⟩
theorem TxC.of (r : TxP L h t u) (wf : am_Wf L h) : TxC L h t u (nx L) := by
  obtain ⟨r0, l, A, E, r1, r2⟩ := r
  have hw := hwL.of wf
  obtain ⟨-, -, -, -, -, -, -, ⟨-, -, -, -, k⟩, -⟩ := id r1
  exact ⟨r0, hw _ (by omega), l, A, E, r1, r2, fun m z0 z1 => hw _ (by have := (r2.1 m z0 z1).2.2.2.2.2.2.2.1.1; omega)⟩
theorem TxC.up (r : TxC L h t u c) (wf : am_Wf L h) (hl : LB L L' (nx L)) (hh : ∀ a, a < nx L → h' a = h a) : TxC L' h' t u c := by
  obtain ⟨r0, r3, l, A, E, r1, r2, r4⟩ := r
  have hw := hwL.of wf
  have hk := r1.lk
  exact ⟨r0, r3, l, A, E, r1.lb hw hl, ⟨fun m z0 z1 => ⟨((hl l (hw _ (by omega))).2.2 _).trans (r2.1 m z0 z1).1, (r2.1 m z0 z1).2.lb wf hl hh⟩, r2.2⟩, r4⟩
/-- it grew, and another text is told there, with the same men -/
theorem TxC.ch (r : TxC L h t u c) (wf : am_Wf L h) (hl : LB L L' (nx L)) (s : TxP L' h' t u') (e : tM (uT u') = tM (uT u)) : TxC L' h' t u' c := by
  obtain ⟨r0, r3, l, A, E, r1, r2, r4⟩ := r
  obtain ⟨-, l', A', E', s1, s2⟩ := s
  have hw := hwL.of wf
  have hk := r1.lk
  have e1 : l' = l := by rw [← s1.2.2.2.2.1.2.1, ← r1.2.2.2.2.1.2.1]; exact (hl (t + 1) (hw _ (by have := r1.2.2.2.2.1.1; omega))).2.2 1
  refine ⟨r0, r3, l', A', E', s1, s2, fun m z0 z1 => ?_⟩
  have hm := r2.1 m z0 (by omega)
  have hm' := s2.1 m z0 z1
  have e2 : A' m = A m := by rw [← hm.1, ← hm'.1, e1]; exact (hl l (hw _ (by omega))).2.2 m
  have e3 : E' m = E m := by rw [← hm.2.2.2.2.1.1, ← hm'.2.2.2.2.1.1, e2]; exact (hl (A m) (hw _ (by have := hm.2.1; omega))).2.2 1
  rw [e3]
  exact r4 m z0 (by omega)
theorem TxC.pk (r : TxC L h t u c) (hb : okTx L b) (h1 : c ≤ b) (h2 : kd L b ≠ 116) : TxC (am_pf L b j v) h t u c := by
  obtain ⟨r0, r3, l, A, E, r1, r2, r4⟩ := r
  have hk := r1.lk
  have hl : b ≠ l := by intro z; rw [z] at h2; omega
  exact ⟨r0, r3, l, A, E, r1.pk hb (by omega) hl, r2.pk hb (fun m z0 z1 => by have := r4 m z0 z1; have := (r2.1 m z0 z1).2.2.1; exact ⟨by omega, by omega, by omega⟩) hl, r4⟩
theorem TxC.note {tk : Int} (r : TxC L h t u c) : TxC (am_pf (am_pf (am_pf (am_pf L (t + 4) (uC u) i1) (t + 5) (uC u) i2) (t + 6) (uC u) tk) t 9 (uC u + 1)) h t (uCor' u i1 i2 tk) c := by
  obtain ⟨r0, r3, l, A, E, r1, r2, r4⟩ := r
  exact ⟨r0, r3, l, A, E, r1.note r0, r2.note r1 r0, r4⟩
theorem TxC.tell {n tk : Int} (r : TxC L h t u c) : TxC L h t (pTell n tk u) c := by
  unfold pTell
  split
  · exact r
  · exact r
end TXOP2
