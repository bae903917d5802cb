/-! READING: kinds, values of tokens (numbered as the twin numbers them) -/
set_option maxRecDepth 100000
def kdS (c : Int) : Int := if c = 59 then 4 else if c = 61 then 5 else if c = 40 then 6 else if c = 41 then 7 else if c = 43 then 8 else if c = 45 then 9 else if c = 42 then 10 else if c = 47 then 15 else if c = 60 then 13 else 3
/-- the least word from w on that is the name id -/
def kwS : Nat → Int → Int → Int
  | 0, _, _ => -1
  | n + 1, w, id => if kwN w = id then w else kwS n (w + 1) id
def kwOf (id : Int) : Int := kwS 17 0 id
theorem kwS_rg : ∀ (n : Nat) (w id : Int), kwS n w id = -1 ∨ (w ≤ kwS n w id ∧ kwS n w id < w + n ∧ kwN (kwS n w id) = id)
  | 0, _, _ => Or.inl rfl
  | n + 1, w, id => by
    unfold kwS
    split
    · rename_i c
      exact Or.inr ⟨by omega, by omega, c⟩
    · rcases kwS_rg n (w + 1) id with h | h
      · exact Or.inl h
      · exact Or.inr ⟨by omega, by omega, h.2.2⟩
theorem kwOf_rg (id : Int) : kwOf id = -1 ∨ (0 ≤ kwOf id ∧ kwOf id < 17 ∧ kwN (kwOf id) = id) := by
  have := kwS_rg 17 0 id
  unfold kwOf
  omega
theorem kwS_no : ∀ (n : Nat) (w id : Int), kwS n w id = -1 → 0 ≤ w → ∀ i, w ≤ i → i < w + n → kwN i ≠ id
  | 0, _, _, _, _ => fun i h0 h1 => by omega
  | n + 1, w, id, h, hw => fun i h0 h1 => by
    unfold kwS at h
    split at h
    · omega
    · rename_i c
      rcases Int.lt_or_le w i with e | e
      · exact kwS_no n (w + 1) id h (by omega) i (by omega) (by omega)
      · rw [show i = w by omega]
        exact c
/-- the number that the digits from 0 on tell -/
def numN (f : Int → Int) : Nat → Int
  | 0 => 0
  | n + 1 => 10 * numN f n + (f n - 48)
theorem numN_bd {f : Int → Int} : ∀ n : Nat, (∀ i : Nat, i < n → 48 ≤ f i ∧ f i ≤ 57) → 0 ≤ numN f n ∧ numN f n + 1 ≤ 10 ^ n
  | 0, _ => ⟨Int.le_refl 0, by show (0 : Int) + 1 ≤ 10 ^ 0; decide⟩
  | n + 1, h => by
    have h1 := numN_bd n (fun i hi => h i (by omega))
    have h2 := h n (by omega)
    have e : (10 : Int) ^ (n + 1) = 10 * 10 ^ n := by rw [Int.pow_succ, Int.mul_comm]
    show 0 ≤ 10 * numN f n + (f n - 48) ∧ 10 * numN f n + (f n - 48) + 1 ≤ 10 ^ (n + 1)
    rw [e]
    omega
theorem numN_cg {f g : Int → Int} : ∀ n : Nat, (∀ i : Nat, i < n → f i = g i) → numN f n = numN g n
  | 0, _ => rfl
  | n + 1, h => by
    show 10 * numN f n + (f n - 48) = 10 * numN g n + (g n - 48)
    rw [numN_cg n (fun i hi => h i (by omega)), h n (by omega)]
/-- the token that begins at p -/
def tkL (b : Int → Int) (D p : Int) : Int := tkE b D p - p
def tkI (b : Int → Int) (D p : Int) : Int := idN (fun i => b (p + i)) (tkL b D p).toNat
def tkV (b : Int → Int) (D p : Int) : Int := numN (fun i => b (p + i)) (tkL b D p).toNat
def tkK (b : Int → Int) (D p : Int) : Int :=
  if D ≤ p then 0 else if isL (b p) = true then (if 8 < tkL b D p then 3 else if 0 ≤ kwOf (tkI b D p) then 20 + kwOf (tkI b D p) else 1)
  else if isG (b p) = true then (if 4 < tkL b D p then 3 else 2) else kdS (b p)
theorem kdS_rg (c : Int) : kdS c = 3 ∨ (4 ≤ kdS c ∧ kdS c ≤ 15) := by
  unfold kdS
  (repeat' split) <;> omega
theorem tkK_rg (b : Int → Int) (D p : Int) : 0 ≤ tkK b D p ∧ tkK b D p ≤ 36 := by
  have h1 := kdS_rg (b p)
  have h2 := kwOf_rg (tkI b D p)
  unfold tkK
  (repeat' split) <;> omega
section TKE
variable {b : Int → Int} {D p : Int}
/-- where a run of letters or digits ends: 2001 is fuel enough -/
theorem tkE_le (hp : 0 ≤ p) (h : p < D) (hD : D ≤ 2000) : p < tkE b D p ∧ tkE b D p ≤ D := by
  unfold tkE
  split
  · rename_i c
    refine ⟨?_, spn_D 2001 p (by omega)⟩
    have : spn isL b D 2001 p = spn isL b D 2000 (p + 1) := if_pos ⟨h, c⟩
    rw [this]
    have := spn_le (q := isL) (b := b) (D := D) 2000 (p + 1)
    omega
  · split
    · rename_i c
      refine ⟨?_, spn_D 2001 p (by omega)⟩
      have : spn isG b D 2001 p = spn isG b D 2000 (p + 1) := if_pos ⟨h, c⟩
      rw [this]
      have := spn_le (q := isG) (b := b) (D := D) 2000 (p + 1)
      omega
    · omega
theorem tkE_L (hp : 0 ≤ p) (hD : D ≤ 2000) (hc : isL (b p) = true) {e : Int} (h0 : p ≤ e) (h1 : ∀ i, p ≤ i → i < e → i < D ∧ isL (b i) = true) (h2 : ¬ (e < D ∧ isL (b e) = true)) : tkE b D p = e := by
  unfold tkE
  rw [if_pos hc]
  exact spn_is (by omega) h0 h1 h2
theorem tkE_G (hp : 0 ≤ p) (hD : D ≤ 2000) (hc : isL (b p) ≠ true) (hg : isG (b p) = true) {e : Int} (h0 : p ≤ e) (h1 : ∀ i, p ≤ i → i < e → i < D ∧ isG (b i) = true) (h2 : ¬ (e < D ∧ isG (b e) = true)) : tkE b D p = e := by
  unfold tkE
  rw [if_neg hc, if_pos hg]
  exact spn_is (by omega) h0 h1 h2
theorem tkE_S (hc : isL (b p) ≠ true) (hg : isG (b p) ≠ true) : tkE b D p = p + 1 := by
  unfold tkE
  rw [if_neg hc, if_neg hg]
/-- the letters of a name -/
theorem tkE_Li (h : p < D) (hc : isL (b p) = true) : ∀ i, p ≤ i → i < tkE b D p → i < D ∧ 97 ≤ b i ∧ b i ≤ 122 := fun i h0 h1 => by
  unfold tkE at h1
  rw [if_pos hc] at h1
  have := spn_in 2001 p i h0 h1
  unfold isL at this
  exact ⟨this.1, of_decide_eq_true this.2⟩
theorem tkE_Gi (h : p < D) (hc : isL (b p) ≠ true) (hg : isG (b p) = true) : ∀ i, p ≤ i → i < tkE b D p → i < D ∧ 48 ≤ b i ∧ b i ≤ 57 := fun i h0 h1 => by
  unfold tkE at h1
  rw [if_neg hc, if_pos hg] at h1
  have := spn_in 2001 p i h0 h1
  unfold isG at this
  exact ⟨this.1, of_decide_eq_true this.2⟩
end TKE
/-- the n-th token: kind, value, name, place -/
def sK (b : Int → Int) (D n : Int) : Int := tkK b D (tkP b D n.toNat)
def sP (b : Int → Int) (D n : Int) : Int := tkP b D n.toNat
theorem tkP_le (b : Int → Int) {D : Int} (h0 : 0 ≤ D) : ∀ n : Nat, 0 ≤ tkP b D n ∧ (tkP b D n ≤ D ∨ D ≤ tkP b D n)
  | 0 => ⟨spn_le 2001 0, by omega⟩
  | n + 1 => by
    have h1 := tkP_le b h0 n
    have h2 := spn_le (q := isW) (b := b) (D := D) 2001 (tkE b D (tkP b D n))
    have h3 : tkP b D n ≤ tkE b D (tkP b D n) := by
      unfold tkE
      split
      · exact spn_le 2001 _
      · split
        · exact spn_le 2001 _
        · omega
    refine ⟨?_, by omega⟩
    show 0 ≤ spn isW b D 2001 (tkE b D (tkP b D n))
    omega
/-- while no token ends the text, the next one begins behind it and not behind the text -/
theorem sP_s {b : Int → Int} {D n : Int} (h0 : 0 ≤ D ∧ D ≤ 2000) (hn : 0 ≤ n) (hp : sP b D n < D) : sP b D n < sP b D (n + 1) ∧ sP b D (n + 1) ≤ D := by
  have h1 := (tkP_le b h0.1 n.toNat).1
  have h2 := tkE_le (b := b) (p := tkP b D n.toNat) h1 hp h0.2
  unfold sP
  rw [show (n + 1).toNat = n.toNat + 1 by omega]
  show _ < spn isW b D 2001 (tkE b D (tkP b D n.toNat)) ∧ spn isW b D 2001 (tkE b D (tkP b D n.toNat)) ≤ D
  have h3 := spn_le (q := isW) (b := b) (D := D) 2001 (tkE b D (tkP b D n.toNat))
  exact ⟨by omega, spn_D 2001 _ h2.2⟩
theorem sK_0 {b : Int → Int} {D n : Int} : sK b D n = 0 ↔ D ≤ sP b D n := by
  constructor
  · intro h
    unfold sK tkK at h
    split at h
    · assumption
    · have h1 := kdS_rg (b (tkP b D n.toNat))
      exfalso
      (repeat' split at h) <;> omega
  · intro h
    unfold sK tkK
    exact if_pos h
/-- the tokens up to N are there, none ahead of it ends the text -/
def upN (b : Int → Int) (D N : Int) : Prop := ∀ i, 0 ≤ i → i < N → sK b D i ≠ 0
theorem sP_N {b : Int → Int} {D N : Int} (h0 : 0 ≤ D ∧ D ≤ 2000) (hN : upN b D N) : ∀ i : Nat, (i : Int) ≤ N → (i : Int) ≤ sP b D i ∧ sP b D i ≤ D
  | 0, _ => ⟨(tkP_le b h0.1 0).1, spn_D 2001 0 h0.1⟩
  | i + 1, h => by
    have h1 := sP_N h0 hN i (by omega)
    have h2 : sP b D i < D := by
      rcases Int.lt_or_le (sP b D i) D with q | q
      · exact q
      · exact absurd (sK_0.mpr q) (hN i (by omega) (by omega))
    have h3 := sP_s h0 (n := i) (by omega) h2
    rw [show ((i + 1 : Nat) : Int) = (i : Int) + 1 by omega]
    omega
theorem sP_mono {b : Int → Int} {D N : Int} (h0 : 0 ≤ D ∧ D ≤ 2000) (hN : upN b D N) : ∀ (k : Nat) (i : Int), 0 ≤ i → i + k ≤ N → 0 < k → sP b D i < sP b D (i + k)
  | 0, _, _, _, h => absurd h (Nat.lt_irrefl 0)
  | k + 1, i, h1, h2, _ => by
    have h3 : sP b D (i + k) < D := by
      rcases Int.lt_or_le (sP b D (i + k)) D with q | q
      · exact q
      · exact absurd (sK_0.mpr q) (hN (i + k) (by omega) (by omega))
    have h4 := sP_s h0 (n := i + k) (by omega) h3
    rw [show i + ((k + 1 : Nat) : Int) = i + k + 1 by omega]
    rcases Nat.eq_zero_or_pos k with e | e
    · subst e
      rw [show i + ((0 : Nat) : Int) = i by omega] at h4 ⊢
      exact h4.1
    · have := sP_mono h0 hN k i h1 (by omega) e
      omega
theorem sP_lt {b : Int → Int} {D N i j : Int} (h0 : 0 ≤ D ∧ D ≤ 2000) (hN : upN b D N) (hi : 0 ≤ i ∧ i ≤ N) (hj : 0 ≤ j ∧ j ≤ N) : (i < j ↔ sP b D i < sP b D j) ∧ (i = j ↔ sP b D i = sP b D j) := by
  have key : ∀ u v : Int, 0 ≤ u → v ≤ N → u < v → sP b D u < sP b D v := fun u v a c e => by
    have := sP_mono h0 hN (v - u).toNat u a (by omega) (by omega)
    rw [show u + ((v - u).toNat : Int) = v by omega] at this
    exact this
  rcases Int.lt_trichotomy i j with e | e | e
  · have := key i j hi.1 hj.2 e
    omega
  · subst e
    omega
  · have := key j i hj.1 hi.2 e
    omega
