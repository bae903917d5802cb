/-! READING: the tokens of a text, in plain numbers. b: the bytes, D: how many; kinds are numbered as the twin numbers them -/
set_option maxRecDepth 100000
def isL (c : Int) : Bool := decide (97 ≤ c ∧ c ≤ 122)
def isG (c : Int) : Bool := decide (48 ≤ c ∧ c ≤ 57)
def isW (c : Int) : Bool := decide (c = 32 ∨ c = 9 ∨ c = 10 ∨ c = 13)
/-- from k on while the byte is of the kind q: where that ends -/
def spn (q : Int → Bool) (b : Int → Int) (D : Int) : Nat → Int → Int
  | 0, k => k
  | n + 1, k => if k < D ∧ q (b k) = true then spn q b D n (k + 1) else k
section SPN
variable {q : Int → Bool} {b : Int → Int} {D : Int}
theorem spn_le : ∀ (n : Nat) (k : Int), k ≤ spn q b D n k
  | 0, k => Int.le_refl k
  | n + 1, k => by
    unfold spn
    split
    · have := spn_le n (k + 1)
      omega
    · omega
theorem spn_D : ∀ (n : Nat) (k : Int), k ≤ D → spn q b D n k ≤ D
  | 0, k, h => h
  | n + 1, k, h => by
    unfold spn
    split
    · rename_i c
      exact spn_D n (k + 1) (by omega)
    · exact h
/-- enough fuel: the run ends where it must -/
theorem spn_end : ∀ (n : Nat) (k : Int), D - k < n → ¬ (spn q b D n k < D ∧ q (b (spn q b D n k)) = true)
  | 0, k, h => by
    unfold spn
    omega
  | n + 1, k, h => by
    unfold spn
    split
    · exact spn_end n (k + 1) (by omega)
    · assumption
theorem spn_in : ∀ (n : Nat) (k i : Int), k ≤ i → i < spn q b D n k → i < D ∧ q (b i) = true
  | 0, k, i, h0, h1 => by
    unfold spn at h1
    omega
  | n + 1, k, i, h0, h1 => by
    unfold spn at h1
    split at h1
    · rename_i c
      rcases Int.lt_or_le k i with e | e
      · exact spn_in n (k + 1) i (by omega) h1
      · rw [show i = k by omega]
        exact c
    · omega
/-- what ends there is the run -/
theorem spn_is {n : Nat} {k e : Int} (hn : D - k < n) (h0 : k ≤ e) (h1 : ∀ i, k ≤ i → i < e → i < D ∧ q (b i) = true) (h2 : ¬ (e < D ∧ q (b e) = true)) : spn q b D n k = e := by
  have a1 := spn_le (q := q) (b := b) (D := D) n k
  rcases Int.lt_trichotomy (spn q b D n k) e with c | c | c
  · exact absurd (h1 _ a1 c) (spn_end n k hn)
  · exact c
  · exact absurd (spn_in n k e h0 c) h2
end SPN
/-- where the n-th token begins, and ends -/
def tkE (b : Int → Int) (D k : Int) : Int := if isL (b k) = true then spn isL b D 2001 k else if isG (b k) = true then spn isG b D 2001 k else k + 1
def tkP (b : Int → Int) (D : Int) : Nat → Int
  | 0 => spn isW b D 2001 0
  | n + 1 => spn isW b D 2001 (tkE b D (tkP b D n))
