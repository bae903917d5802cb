/-! READING: a text that is read is in order -/
set_option maxRecDepth 100000
section PTXT
variable {a a' c lo hi v n tk k m i j N D p : Int} {b : Int → Int} {u u' w : PS} {K V I : Int → Int}
theorem tkV_rg (h0 : 0 ≤ D ∧ D ≤ 2000) (hp0 : 0 ≤ p) (hK : tkK b D p = 2) : 0 ≤ tkV b D p ∧ tkV b D p ≤ 9999 := by
  have hks := kdS_rg (b p)
  have hkw := kwOf_rg (tkI b D p)
  unfold tkK at hK
  have hp : p < D := by
    rcases Int.lt_or_le p D with q | q
    · exact q
    · rw [if_pos q] at hK
      omega
  rw [if_neg (by omega)] at hK
  split at hK
  · exfalso
    (repeat' split at hK) <;> omega
  · rename_i hl
    split at hK
    · rename_i hg
      split at hK
      · omega
      · rename_i hlen
        have hle := tkE_le (b := b) hp0 hp h0.2
        have hgi := tkE_Gi hp hl hg
        unfold tkL at hlen
        have hbd := numN_bd (f := fun i => b (p + i)) (tkL b D p).toNat (fun j z => (hgi (p + j) (by omega) (by unfold tkL at z; omega)).2)
        have hpw : (10 : Int) ^ (tkL b D p).toNat ≤ 10000 := by
          have : ∀ j : Nat, j ≤ 4 → (10 : Int) ^ j ≤ 10000 := by
            intro j hj
            have : j = 0 ∨ j = 1 ∨ j = 2 ∨ j = 3 ∨ j = 4 := by omega
            rcases this with q | q | q | q | q <;> rw [q] <;> decide
          exact this _ (by unfold tkL; omega)
        have e : tkV b D p = numN (fun i => b (p + i)) (tkL b D p).toNat := rfl
        rw [e]
        omega
    · omega
theorem sV_rg (h0 : 0 ≤ D ∧ D ≤ 2000) (hk : sK b D a = 2) : 0 ≤ sV b D a ∧ sV b D a ≤ 9999 := tkV_rg h0 (tkP_le b h0.1 a.toNat).1 hk
/-- a sum's value is an int -/
def tauOk (t : Tau) : Prop := ∀ v : Int → Int, (∀ i, rg32 (v i)) → rg32 (t v).1
theorem tauOk.jn {s t : Tau} {op : Int} : tauOk (jnT op s t) := fun v hv => by
  unfold jnT
  repeat' split
  all_goals first
    | exact wr_rg _
    | exact bDiv_rg _ _
    | exact am_r0
theorem tauOk.z : tauOk (fun _ => (0, 0)) := fun v hv => am_r0
theorem pE_ok (hV : ∀ a, K a = 2 → rg32 (V a)) : ∀ (f m : Nat) (o a : Int) (ta t : Tau) (a' : Int), tauOk ta → pE K V f m o a ta = .inl (t, a') → tauOk t ∧ a ≤ a'
  | 0, m, o, a, ta, t, a', h0, h => by
    simp only [pE] at h
    cases h
  | f + 1, 0, o, a, ta, t, a', h0, h => by
    simp only [pE] at h
    split at h
    · rename_i q
      split at h
      · cases h
      · cases h
        exact ⟨fun v hv => hV a q, by omega⟩
    split at h
    · split at h
      · cases h
      · cases h
        exact ⟨fun v hv => hv _, by omega⟩
    split at h
    · cases h
    split at h
    · cases h
    split at h
    · cases h
    · match e : pE K V f 3 (o + 1) (a + 1) ta with
      | .inr r => rw [e] at h; cases h
      | .inl (t1, a1) =>
        rw [e] at h
        have := pE_ok hV f 3 (o + 1) (a + 1) ta t1 a1 h0 e
        simp only at h
        split at h
        · cases h
        split at h
        · cases h
        · cases h
          exact ⟨this.1, by omega⟩
  | f + 1, 1, o, a, ta, t, a', h0, h => by
    simp only [pE] at h
    match e : pE K V f 0 o a ta with
    | .inr r => rw [e] at h; cases h
    | .inl (t1, a1) =>
      rw [e] at h
      have h1 := pE_ok hV f 0 o a ta t1 a1 h0 e
      have h2 := pE_ok hV f 2 o a1 t1 t a' h1.1 h
      exact ⟨h2.1, by omega⟩
  | f + 1, 2, o, a, ta, t, a', h0, h => by
    simp only [pE] at h
    split at h
    · split at h
      · cases h
      · match e : pE K V f 0 o (a + 1) ta with
        | .inr r => rw [e] at h; cases h
        | .inl (t1, a1) =>
          rw [e] at h
          have h1 := pE_ok hV f 0 o (a + 1) ta t1 a1 h0 e
          have h2 := pE_ok hV f 2 o a1 _ t a' tauOk.jn h
          exact ⟨h2.1, by omega⟩
    · cases h
      exact ⟨h0, Int.le_refl _⟩
  | f + 1, 3, o, a, ta, t, a', h0, h => by
    simp only [pE] at h
    match e : pE K V f 1 o a ta with
    | .inr r => rw [e] at h; cases h
    | .inl (t1, a1) =>
      rw [e] at h
      have h1 := pE_ok hV f 1 o a ta t1 a1 h0 e
      have h2 := pE_ok hV f 4 o a1 t1 t a' h1.1 h
      exact ⟨h2.1, by omega⟩
  | f + 1, m + 4, o, a, ta, t, a', h0, h => by
    simp only [pE] at h
    split at h
    · split at h
      · cases h
      · match e : pE K V f 1 o (a + 1) ta with
        | .inr r => rw [e] at h; cases h
        | .inl (t1, a1) =>
          rw [e] at h
          have h1 := pE_ok hV f 1 o (a + 1) ta t1 a1 h0 e
          have h2 := pE_ok hV f 4 o a1 _ t a' tauOk.jn h
          exact ⟨h2.1, by omega⟩
    · cases h
      exact ⟨h0, Int.le_refl _⟩
theorem pS_ok (hV : ∀ a, K a = 2 → rg32 (V a)) {t : Tau} (h : pS K V a = .inl (t, a')) : tauOk t ∧ a ≤ a' := pE_ok hV _ _ _ _ _ _ _ tauOk.z h
theorem lawGo_ok {tl tt te : Int → Tau} (ht : ∀ k, tauOk (te k)) {v : Int → Int} (hv : ∀ i, rg32 (v i)) : ∀ (r : Nat) (k b : Int), rg32 (lawGo tl tt te v r k b).1
  | 0, k, b => ht k v hv
  | r + 1, k, b => by
    unfold lawGo
    split
    · exact lawGo_ok ht hv r _ _
    · exact ht k v hv
theorem lamOf_ok {tl tt te : Int → Tau} (ht : ∀ k, tauOk (te k)) : lamOk (lamOf n tl tt te) := by
  refine ⟨fun v => ?_, fun v hv => ?_⟩
  · unfold lamOf
    repeat' split
    all_goals omega
  · have := (lawGo_ok (tl := tl) (tt := tt) ht hv n.toNat 0 0).2
    unfold lamOf
    repeat' split
    all_goals omega
theorem upT_ok {te : Int → Tau} {t : Tau} (ht : ∀ k, tauOk (te k)) (h : tauOk t) : ∀ k, tauOk (upT te n t k) := fun k => by
  unfold upT
  split
  · exact h
  · exact ht k
theorem pIfs_ok (hV : ∀ a, K a = 2 → rg32 (V a)) : ∀ (r : Nat) (a n : Int) (tl tt te : Int → Tau) (la : Lam) (a' : Int), (∀ k, tauOk (te k)) → pIfs K V r a n tl tt te = .inl (la, a') → lamOk la ∧ a ≤ a'
  | 0, a, n, tl, tt, te, la, a', ht, h => by
    unfold pIfs at h
    split at h
    · cases h
    · obtain ⟨⟨t, a1⟩, e, h⟩ := rb_i h
      cases h
      have := pS_ok hV e
      exact ⟨lamOf_ok (upT_ok ht this.1), this.2⟩
  | r + 1, a, n, tl, tt, te, la, a', ht, h => by
    unfold pIfs at h
    split at h
    · obtain ⟨a1, e1, h⟩ := rb_i h
      obtain ⟨⟨t1, b1⟩, f1, h⟩ := rb_i h
      obtain ⟨a2, e2, h⟩ := rb_i h
      obtain ⟨⟨t2, b2⟩, f2, h⟩ := rb_i h
      obtain ⟨a3, e3, h⟩ := rb_i h
      obtain ⟨⟨t3, b3⟩, f3, h⟩ := rb_i h
      obtain ⟨a4, e4, h⟩ := rb_i h
      have g1 := (pS_ok hV f1).2
      have g2 := (pS_ok hV f2).2
      have g3 := pS_ok hV f3
      have p1 := (pP_i e1).2
      have p2 := (pM_i e2).2.2
      have p3 := (pM_i e3).2.2
      have p4 := (pM_i e4).2.2
      simp only at p1 p2 p3 p4
      have := pIfs_ok hV r a4 (n + 1) _ _ _ la a' (upT_ok ht g3.1) h
      exact ⟨this.1, by omega⟩
    · obtain ⟨⟨t, a1⟩, e, h⟩ := rb_i h
      cases h
      have := pS_ok hV e
      exact ⟨lamOf_ok (upT_ok ht this.1), this.2⟩
theorem pLaw_ok (hV : ∀ a, K a = 2 → rg32 (V a)) {la : Lam} (h : pLaw K V a = .inl (la, a')) : lamOk la ∧ a ≤ a' := by
  obtain ⟨a1, e1, h⟩ := rb_i h
  have p1 := (pM_i e1).2.2
  have := pIfs_ok hV 4 a1 0 _ _ _ la a' (fun k => tauOk.z) h
  exact ⟨this.1, by omega⟩
end PTXT
