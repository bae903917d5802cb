/-! PURE: sums, loops -/
set_option maxRecDepth 100000
def sumN : Nat → (Int → Int) → Int
  | 0, _ => 0
  | n + 1, f => sumN n f + f n
def sumI (n : Int) (f : Int → Int) : Int := sumN n.toNat f
theorem sumI_0 (f : Int → Int) : sumI 0 f = 0 := rfl
theorem sumI_neg {n : Int} (f : Int → Int) (h : n ≤ 0) : sumI n f = 0 := by
  unfold sumI
  rw [show n.toNat = 0 by omega]
  rfl
theorem sumI_s {n : Int} (f : Int → Int) (h : 0 ≤ n) : sumI (n + 1) f = sumI n f + f n := by
  unfold sumI
  rw [show (n + 1).toNat = n.toNat + 1 by omega]
  show sumN n.toNat f + f ((n.toNat : Nat) : Int) = _
  rw [show ((n.toNat : Nat) : Int) = n by omega]
theorem sumN_congr {f g : Int → Int} : ∀ (n : Nat), (∀ k : Int, 0 ≤ k → k < n → f k = g k) → sumN n f = sumN n g
  | 0, _ => rfl
  | n + 1, h => by
    show sumN n f + f n = sumN n g + g n
    rw [sumN_congr n (fun k h0 h1 => h k h0 (by omega)), h n (by omega) (by omega)]
theorem sumI_congr {n : Int} {f g : Int → Int} (h : ∀ k : Int, 0 ≤ k → k < n → f k = g k) : sumI n f = sumI n g := by
  unfold sumI
  exact sumN_congr _ (fun k h0 h1 => h k h0 (by omega))
theorem sumN_bd {f : Int → Int} {b : Int} : ∀ (n : Nat), (∀ k : Int, 0 ≤ k → k < n → 0 ≤ f k ∧ f k ≤ b) → 0 ≤ sumN n f ∧ sumN n f ≤ n * b
  | 0, _ => by simp [sumN]
  | n + 1, h => by
    obtain ⟨h1, h2⟩ := sumN_bd n (fun k h0 h1 => h k h0 (by omega))
    obtain ⟨h3, h4⟩ := h n (by omega) (by omega)
    show 0 ≤ sumN n f + f n ∧ sumN n f + f n ≤ ((n + 1 : Nat) : Int) * b
    rw [show ((n + 1 : Nat) : Int) * b = n * b + b by rw [show ((n + 1 : Nat) : Int) = (n : Int) + 1 by omega, Int.add_mul, Int.one_mul]]
    omega
theorem sumI_bd {n b : Int} {f : Int → Int} (hn : 0 ≤ n) (h : ∀ k : Int, 0 ≤ k → k < n → 0 ≤ f k ∧ f k ≤ b) : 0 ≤ sumI n f ∧ sumI n f ≤ n * b := by
  have := sumN_bd (f := f) (b := b) n.toNat (fun k h0 h1 => h k h0 (by omega))
  rw [show ((n.toNat : Nat) : Int) = n by omega] at this
  exact this
theorem x_up0 (N : Int) (W : Int → Prop) (hs : ∀ o, (o < N → W (o + 1)) → W o) : ∀ o, W o := by
  refine x_loop (fun o => (N - o).toNat) W (fun o ih => hs o (fun q => ih (o + 1) (by show (N - (o + 1)).toNat < (N - o).toNat; omega)))
theorem x_up1 (N : Int) {A : Type} (W : Int → A → Prop) (hs : ∀ o a, (o < N → ∀ a', W (o + 1) a') → W o a) : ∀ o a, W o a := fun o => x_up0 N (fun o => ∀ a, W o a) (fun o ih a => hs o a ih) o
theorem x_up2 (N : Int) {A B : Type} (W : Int → A → B → Prop) (hs : ∀ o a b, (o < N → ∀ a' b', W (o + 1) a' b') → W o a b) : ∀ o a b, W o a b := fun o => x_up0 N (fun o => ∀ a b, W o a b) (fun o ih a b => hs o a b ih) o
theorem x_up3 (N : Int) {A B C : Type} (W : Int → A → B → C → Prop) (hs : ∀ o a b c, (o < N → ∀ a' b' c', W (o + 1) a' b' c') → W o a b c) : ∀ o a b c, W o a b c := fun o => x_up0 N (fun o => ∀ a b c, W o a b c) (fun o ih a b c => hs o a b c ih) o
theorem x_up4 (N : Int) {A B C D : Type} (W : Int → A → B → C → D → Prop) (hs : ∀ o a b c e, (o < N → ∀ a' b' c' e', W (o + 1) a' b' c' e') → W o a b c e) : ∀ o a b c e, W o a b c e := fun o => x_up0 N (fun o => ∀ a b c e, W o a b c e) (fun o ih a b c e => hs o a b c e ih) o
