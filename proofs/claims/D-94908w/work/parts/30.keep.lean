/-! WHAT THE ROWS KEEP: steps, winds, cuts, goes, minutes, the start -/
set_option maxRecDepth 100000
section KEEP
variable {T : Txt} {S : Row} {b q m w : Int}
theorem posX_step {o k : Int} (h : o ≠ m ∨ k ≤ rN S m) : posX T (stepR S m w) o k = posX T S o k := by
  unfold posX
  refine congrArg _ (sumI_congr fun j h0 h1 => ?_)
  show dX (up2 (rW S) m (rN S m) w o j) = _
  unfold up2
  rw [if_neg (by omega)]
theorem posY_step {o k : Int} (h : o ≠ m ∨ k ≤ rN S m) : posY T (stepR S m w) o k = posY T S o k := by
  unfold posY
  refine congrArg _ (sumI_congr fun j h0 h1 => ?_)
  show dY (up2 (rW S) m (rN S m) w o j) = _
  unfold up2
  rw [if_neg (by omega)]
theorem posX_s {k : Int} (hk : 0 ≤ k) : posX T S m (k + 1) = posX T S m k + dX (rW S m k) := by
  unfold posX
  rw [sumI_s _ hk]
  omega
theorem posY_s {k : Int} (hk : 0 ≤ k) : posY T S m (k + 1) = posY T S m k + dY (rW S m k) := by
  unfold posY
  rw [sumI_s _ hk]
  omega
theorem posX_step1 (hn : 0 ≤ rN S m) : posX T (stepR S m w) m (rN S m + 1) = posX T S m (rN S m) + dX w := by
  rw [posX_s hn, posX_step (Or.inr (by omega))]
  show _ + dX (up2 (rW S) m (rN S m) w m (rN S m)) = _
  unfold up2
  rw [if_pos ⟨rfl, rfl⟩]
theorem posY_step1 (hn : 0 ≤ rN S m) : posY T (stepR S m w) m (rN S m + 1) = posY T S m (rN S m) + dY w := by
  rw [posY_s hn, posY_step (Or.inr (by omega))]
  show _ + dY (up2 (rW S) m (rN S m) w m (rN S m)) = _
  unfold up2
  rw [if_pos ⟨rfl, rfl⟩]
theorem RowI.mono {b' q' : Int} (hI : RowI T S b q) (h1 : b ≤ b') (h2 : q ≤ q') : RowI T S b' q' := by
  obtain ⟨a1, a2, a3, a4, a5, a6, a7, a8⟩ := hI
  exact ⟨a1, a2, a3, a4, a5, a6, by omega, by omega⟩
theorem RowI.step (hI : RowI T S b q) (hT : TxtI T) (hm : 0 ≤ m ∧ m < tM T) (hw : 1 ≤ w ∧ w ≤ 4) (hc : canStep T S m w) : RowI T (stepR S m w) b (q + 1) := by
  obtain ⟨a1, a2, a3, a4, a5, a6, a7, a8⟩ := hI
  obtain ⟨c1, c2, c3⟩ := hc
  have hm7 : m < 7 := by have := hT.1; omega
  have hn := (a1 m hm.1 hm7).1
  have hN : ∀ o, rN (stepR S m w) o = up1 (rN S) m (rN S m + 1) o := fun _ => rfl
  have hW : ∀ o k, rW (stepR S m w) o k = up2 (rW S) m (rN S m) w o k := fun _ _ => rfl
  have hS : ∀ o k, rS (stepR S m w) o k = up2 (rS S) m (rN S m) (stO (rX S m) (rY S m) w) o k := fun _ _ => rfl
  have hTt : ∀ o k, rT (stepR S m w) o k = up2 (rT S) m (rN S m) (rQ S) o k := fun _ _ => rfl
  have px := (a2 m hm.1 hm.2).2 c1
  refine ⟨fun o h0 h1 => ?_, fun o h0 h1 => ?_, fun o k h0 h1 h2 h3 => ?_, fun o k o' j h0 h1 h2 h3 h4 h5 h6 h7 he => ?_, a5, a6, a7, ?_⟩
  · rw [hN]
    unfold up1
    obtain ⟨e1, e2, e3⟩ := a1 o h0 h1
    by_cases e : o = m
    · subst e
      rw [if_pos rfl]
      exact ⟨by omega, by omega, Or.inl c1⟩
    · rw [if_neg e]
      exact ⟨e1, e2, e3⟩
  · show inT T (up1 (rX S) m _ o) (up1 (rY S) m _ o) ∧ (bt (rL S) o = 0 → up1 (rX S) m _ o = _ ∧ up1 (rY S) m _ o = _)
    rw [hN]
    unfold up1
    by_cases e : o = m
    · subst e
      rw [if_pos rfl, if_pos rfl, if_pos rfl, posX_step1 hn.1, posY_step1 hn.1]
      exact ⟨c3, fun _ => by omega⟩
    · rw [if_neg e, if_neg e, if_neg e, posX_step (Or.inl e), posY_step (Or.inl e)]
      exact a2 o h0 h1
  · rw [hN] at h3
    rw [hW, hS, hTt]
    show _ ∧ (_ ∧ _ < rQ S + 1) ∧ _
    unfold up1 at h3
    unfold up2
    by_cases e : o = m ∧ k = rN S m
    · obtain ⟨rfl, rfl⟩ := e
      rw [if_pos ⟨rfl, rfl⟩, if_pos ⟨rfl, rfl⟩, if_pos ⟨rfl, rfl⟩, posX_step1 h2, posY_step1 h2, posX_step (Or.inr (by omega)), posY_step (Or.inr (by omega)), ← px.1, ← px.2]
      exact ⟨hw, by omega, rfl, (a2 o h0 h1).1, c3⟩
    · have h3' : k < rN S o := by
        by_cases e' : o = m
        · subst e'
          rw [if_pos rfl] at h3
          omega
        · rw [if_neg e'] at h3
          exact h3
      have h4' : o ≠ m ∨ k + 1 ≤ rN S m := by
        by_cases e' : o = m
        · subst e'
          exact Or.inr (by omega)
        · exact Or.inl e'
      rw [if_neg e, if_neg e, if_neg e, posX_step (by omega), posY_step (by omega), posX_step h4', posY_step h4']
      obtain ⟨b1, b2, b3⟩ := a3 o k h0 h1 h2 h3'
      exact ⟨b1, by omega, b3⟩
  · rw [hN] at h3 h7
    rw [hTt, hTt] at he
    unfold up1 at h3 h7
    unfold up2 at he
    have g : ∀ o k, 0 ≤ o → o < tM T → 0 ≤ k → ¬ (o = m ∧ k = rN S m) → k < (if o = m then rN S m + 1 else rN S o) → k < rN S o ∧ rT S o k < rQ S := by
      intro o k h0 h1 h2 e h3
      have h3' : k < rN S o := by
        by_cases e' : o = m
        · subst e'
          rw [if_pos rfl] at h3
          omega
        · rw [if_neg e'] at h3
          exact h3
      exact ⟨h3', (a3 o k h0 h1 h2 h3').2.1.2⟩
    by_cases e : o = m ∧ k = rN S m <;> by_cases e' : o' = m ∧ j = rN S m
    · omega
    · rw [if_pos e, if_neg e'] at he
      have := g o' j h4 h5 h6 e' h7
      omega
    · rw [if_neg e, if_pos e'] at he
      have := g o k h0 h1 h2 e h3
      omega
    · rw [if_neg e, if_neg e'] at he
      exact a4 o k o' j h0 h1 h2 (g o k h0 h1 h2 e h3).1 h4 h5 h6 (g o' j h4 h5 h6 e' h7).1 he
  · show 0 ≤ rQ S + 1 ∧ rQ S + 1 ≤ q + 1
    omega
theorem RowI.wind (hI : RowI T S b q) (hT : TxtI T) (hm : 0 ≤ m ∧ m < tM T) (hc : canWind T S m) : RowI T (windR S m) b q := by
  obtain ⟨a1, a2, a3, a4, a5, a6, a7, a8⟩ := hI
  obtain ⟨c1, c2, c3⟩ := hc
  have hm7 : m < 7 := by have := hT.1; omega
  have hn := (a1 m hm.1 hm7).1
  have hN : ∀ o, rN (windR S m) o = up1 (rN S) m (rN S m - 1) o := fun _ => rfl
  have hle : ∀ o k, k < rN (windR S m) o → k < rN S o := by
    intro o k h
    rw [hN] at h
    unfold up1 at h
    split at h
    · rename_i e
      subst e
      omega
    · exact h
  have px := (a2 m hm.1 hm.2).2 c1
  have hp := a3 m (rN S m - 1) hm.1 hm.2 (by omega) (by omega)
  have ex : posX T S m (rN S m) = posX T S m (rN S m - 1) + dX (rW S m (rN S m - 1)) := by
    rw [← posX_s (by omega)]
    congr 1
    omega
  have ey : posY T S m (rN S m) = posY T S m (rN S m - 1) + dY (rW S m (rN S m - 1)) := by
    rw [← posY_s (by omega)]
    congr 1
    omega
  refine ⟨fun o h0 h1 => ?_, fun o h0 h1 => ?_, fun o k h0 h1 h2 h3 => a3 o k h0 h1 h2 (hle o k h3), fun o k o' j h0 h1 h2 h3 h4 h5 h6 h7 he => a4 o k o' j h0 h1 h2 (hle _ _ h3) h4 h5 h6 (hle _ _ h7) he, a5, a6, a7, a8⟩
  · rw [hN]
    unfold up1
    obtain ⟨e1, e2, e3⟩ := a1 o h0 h1
    by_cases e : o = m
    · subst e
      rw [if_pos rfl]
      exact ⟨by omega, by omega, Or.inl c1⟩
    · rw [if_neg e]
      exact ⟨e1, e2, e3⟩
  · show inT T (up1 (rX S) m _ o) (up1 (rY S) m _ o) ∧ (bt (rL S) o = 0 → up1 (rX S) m _ o = posX T S o _ ∧ up1 (rY S) m _ o = posY T S o _)
    rw [hN]
    unfold up1
    by_cases e : o = m
    · subst e
      rw [if_pos rfl, if_pos rfl, if_pos rfl]
      rw [show rX S o - dX (rW S o (rN S o - 1)) = posX T S o (rN S o - 1) by omega, show rY S o - dY (rW S o (rN S o - 1)) = posY T S o (rN S o - 1) by omega]
      exact ⟨hp.2.2.2.1, fun _ => ⟨rfl, rfl⟩⟩
    · rw [if_neg e, if_neg e, if_neg e]
      exact a2 o h0 h1
theorem RowI.cut (hI : RowI T S b q) (hT : TxtI T) (hm : 0 ≤ m ∧ m < tM T) : RowI T (cutR S m) b q := by
  obtain ⟨a1, a2, a3, a4, a5, a6, a7, a8⟩ := hI
  have hm7 : m < 7 := by have := hT.1; omega
  have hN : ∀ o, rN (cutR S m) o = up1 (rN S) m 0 o := fun _ => rfl
  have hb : ∀ o, 0 ≤ o → o < 7 → bt (rL (cutR S m)) o = (if o = m then 1 else bt (rL S) o) ∧ (0 ≤ rL (cutR S m) ∧ rL (cutR S m) < 128) := fun o h0 h1 => bt_or a5 ⟨hm.1, hm7⟩ ⟨h0, h1⟩
  have hle : ∀ o k, 0 ≤ k → k < rN (cutR S m) o → k < rN S o := by
    intro o k h2 h
    rw [hN] at h
    unfold up1 at h
    split at h
    · omega
    · exact h
  refine ⟨fun o h0 h1 => ?_, fun o h0 h1 => ?_, fun o k h0 h1 h2 h3 => a3 o k h0 h1 h2 (hle o k h2 h3), fun o k o' j h0 h1 h2 h3 h4 h5 h6 h7 he => a4 o k o' j h0 h1 h2 (hle _ _ h2 h3) h4 h5 h6 (hle _ _ h6 h7) he, (hb 0 (by omega) (by omega)).2, fun o h0 h1 h2 => ?_, a7, a8⟩
  · rw [hN, (hb o h0 h1).1]
    unfold up1
    obtain ⟨e1, e2, e3⟩ := a1 o h0 h1
    by_cases e : o = m
    · subst e
      rw [if_pos rfl]
      exact ⟨by omega, by omega, Or.inr rfl⟩
    · rw [if_neg e, if_neg e]
      exact ⟨e1, e2, e3⟩
  · have h7 : o < 7 := by have := hT.1; omega
    refine ⟨(a2 o h0 h1).1, fun z => ?_⟩
    rw [(hb o h0 h7).1] at z
    by_cases e : o = m
    · rw [if_pos e] at z
      omega
    · rw [if_neg e] at z
      rw [hN]
      unfold up1
      rw [if_neg e]
      exact (a2 o h0 h1).2 z
  · rw [(hb o h2 h1).1, if_neg (by omega)]
    exact a6 o h0 h1 h2
theorem RowI.go (hI : RowI T S b q) (hT : TxtI T) (hm : 0 ≤ m ∧ m < tM T) (off : Int) : RowI T (goR T S m off) b (q + 1) := by
  have hd : 0 ≤ doesR T S m off ∧ doesR T S m off < 6 := by
    unfold doesR
    match e : tG T m with
    | none => simp only; omega
    | some la =>
      simp only
      split
      · omega
      · omega
  unfold goR
  split
  · split
    · rename_i h
      exact (hI.wind hT hm h).mono (by omega) (by omega)
    · exact hI.mono (by omega) (by omega)
  · split
    · split
      · rename_i h
        exact hI.step hT hm (by omega) h
      · exact hI.mono (by omega) (by omega)
    · exact hI.mono (by omega) (by omega)
/-- the first n men go -/
noncomputable def goN (T : Txt) (S : Row) (off : Int) : Nat → Row
  | 0 => S
  | n + 1 => goR T (goN T S off n) n off
/-- the clock goes on -/
def tickR (S : Row) : Row := (rX S, rY S, rN S, rW S, rS S, rT S, rL S, rM S + 1, rQ S)
noncomputable def minuteR (T : Txt) (S : Row) : Row := tickR (goN T S 0 (tM T).toNat)
theorem goR_M (off : Int) : rM (goR T S m off) = rM S := by
  unfold goR
  (repeat' split) <;> rfl
theorem goN_M (off : Int) (n : Nat) : rM (goN T S off n) = rM S := by
  induction n with
  | zero => rfl
  | succ n ih => exact (goR_M off).trans ih
theorem RowI.goN (hI : RowI T S b q) (hT : TxtI T) (off : Int) (n : Nat) (hn : (n : Int) ≤ tM T) : RowI T (goN T S off n) b (q + n) := by
  induction n with
  | zero => exact hI.mono (by omega) (by omega)
  | succ n ih => exact ((ih (by omega)).go hT ⟨by omega, by omega⟩ off).mono (by omega) (by omega)
theorem RowI.tick (hI : RowI T S b q) : RowI T (tickR S) (b + 1) q := by
  obtain ⟨a1, a2, a3, a4, a5, a6, a7, a8⟩ := hI
  refine ⟨a1, a2, a3, a4, a5, a6, ?_, a8⟩
  show 0 ≤ rM S + 1 ∧ rM S + 1 ≤ b + 1
  omega
theorem RowI.minute (hI : RowI T S b q) (hT : TxtI T) : RowI T (minuteR T S) (b + 1) (q + 7) :=
  ((hI.goN hT 0 (tM T).toNat (by have := hT.1; omega)).mono (by omega) (by have := hT.1; omega)).tick
theorem bt_0 {m : Int} (hm : 0 ≤ m ∧ m < 7) : bt 0 m = 0 := by
  obtain ⟨m, rfl⟩ : ∃ n : Nat, m = n := ⟨m.toNat, by omega⟩
  have : m < 7 := by omega
  match m, this with
  | 0, _ => decide
  | 1, _ => decide
  | 2, _ => decide
  | 3, _ => decide
  | 4, _ => decide
  | 5, _ => decide
  | 6, _ => decide
theorem RowI.beg (hT : TxtI T) : RowI T (begR T) 0 0 := by
  refine ⟨fun o h0 h1 => ⟨⟨by show (0 : Int) ≤ 0; omega, (lng_bd hT o).1⟩, fun _ => rfl, Or.inr rfl⟩, fun o h0 h1 => ?_, fun o k h0 h1 h2 h3 => ?_, fun o k o' j h0 h1 h2 h3 => ?_, ⟨by show (0 : Int) ≤ 0; omega, by show (0 : Int) < 128; omega⟩, fun o h0 h1 h2 => bt_0 ⟨h2, h1⟩, ⟨by show (0 : Int) ≤ 0; omega, by show (0 : Int) ≤ 0; omega⟩, ⟨by show (0 : Int) ≤ 0; omega, by show (0 : Int) ≤ 0; omega⟩⟩
  · refine ⟨((hT.2.2.2.2.2.1 o h0 h1).1), fun _ => ?_⟩
    show tDX T o = tDX T o + sumI 0 _ ∧ tDY T o = tDY T o + sumI 0 _
    rw [sumI_0, sumI_0]
    omega
  · have : k < 0 := h3
    omega
  · have : k < 0 := h3
    omega
end KEEP
