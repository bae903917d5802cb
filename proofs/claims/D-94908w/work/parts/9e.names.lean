/-! READING: names as numbers -/
set_option maxRecDepth 100000
/-- the first n letters from k on, as a number -/
def idN (f : Int → Int) : Nat → Int
  | 0 => 0
  | n + 1 => 27 * idN f n + (f n - 96)
theorem idN_pos {f : Int → Int} : ∀ n : Nat, (∀ i : Nat, i < n → 97 ≤ f i ∧ f i ≤ 122) → 0 ≤ idN f n ∧ (0 < n → 0 < idN f n)
  | 0, _ => ⟨Int.le_refl 0, fun h => absurd h (Nat.lt_irrefl 0)⟩
  | n + 1, h => by
    have h1 := (idN_pos n (fun i hi => h i (by omega))).1
    have h2 := h n (by omega)
    show 0 ≤ 27 * idN f n + (f n - 96) ∧ (0 < n + 1 → 0 < 27 * idN f n + (f n - 96))
    omega
/-- two names of one number are one -/
theorem idN_inj {f g : Int → Int} : ∀ (m n : Nat), (∀ i : Nat, i < m → 97 ≤ f i ∧ f i ≤ 122) → (∀ i : Nat, i < n → 97 ≤ g i ∧ g i ≤ 122) → idN f m = idN g n → m = n ∧ ∀ i : Nat, i < m → f i = g i
  | 0, 0, _, _, _ => ⟨rfl, fun i hi => absurd hi (Nat.not_lt_zero i)⟩
  | 0, n + 1, _, hg, e => by
    have := (idN_pos (n + 1) hg).2 (by omega)
    rw [← e] at this
    exact absurd this (Int.lt_irrefl 0)
  | m + 1, 0, hf, _, e => by
    have := (idN_pos (m + 1) hf).2 (by omega)
    rw [e] at this
    exact absurd this (Int.lt_irrefl 0)
  | m + 1, n + 1, hf, hg, e => by
    have e' : 27 * idN f m + (f m - 96) = 27 * idN g n + (g n - 96) := e
    have h1 := hf m (by omega)
    have h2 := hg n (by omega)
    obtain ⟨i1, i2⟩ := idN_inj m n (fun i hi => hf i (by omega)) (fun i hi => hg i (by omega)) (by omega)
    subst i1
    refine ⟨rfl, fun i hi => ?_⟩
    rcases Nat.lt_or_ge i m with q | q
    · exact i2 i q
    · rw [show i = m by omega]
      omega
theorem idN_cg {f g : Int → Int} : ∀ n : Nat, (∀ i : Nat, i < n → f i = g i) → idN f n = idN g n
  | 0, _ => rfl
  | n + 1, h => by
    show 27 * idN f n + (f n - 96) = 27 * idN g n + (g n - 96)
    rw [idN_cg n (fun i hi => h i (by omega)), h n (by omega)]
