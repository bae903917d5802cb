/-! WAYS by all errands: plain laws -/
set_option maxRecDepth 100000
theorem apa_nn (a c : Int) : 0 ≤ apa a c := by
  unfold apa
  split <;> omega
theorem apa_bd {a c : Int} (ha : 0 ≤ a ∧ a ≤ 11) (hc : 0 ≤ c ∧ c ≤ 11) : apa a c ≤ 11 := by
  unfold apa
  split <;> omega
/-- how long a way is by corners in order -/
def pth (ex ey : Int → Int) : Int → Int → List Int → Int
  | _, _, [] => 0
  | u, v, k :: r => apa u (ex k) + apa v (ey k) + pth ex ey (ex k) (ey k) r
theorem pth_nn (ex ey : Int → Int) : ∀ (p : List Int) (u v : Int), 0 ≤ pth ex ey u v p
  | [], _, _ => Int.le_refl _
  | k :: r, u, v => by
    have h1 := pth_nn ex ey r (ex k) (ey k)
    have h2 := apa_nn u (ex k)
    have h3 := apa_nn v (ey k)
    show 0 ≤ apa u (ex k) + apa v (ey k) + pth ex ey (ex k) (ey k) r
    omega
/-- the first least of those of whom p holds -/
def mnK (f : Nat → Int × List Int) (p : Nat → Bool) : Nat → Int × List Int
  | 0 => (-1, [])
  | n + 1 => if p n = true ∧ ((mnK f p n).1 < 0 ∨ (f n).1 < (mnK f p n).1) then f n else mnK f p n
theorem mnK_cg {f f' : Nat → Int × List Int} {p : Nat → Bool} : ∀ n : Nat, (∀ k, k < n → p k = true → f k = f' k) → mnK f p n = mnK f' p n
  | 0, _ => rfl
  | n + 1, h => by
    unfold mnK
    rw [mnK_cg n (fun k z => h k (by omega))]
    by_cases e : p n = true
    · rw [h n (by omega) e]
    · rw [if_neg (fun z => e z.1), if_neg (fun z => e z.1)]
theorem mnK_ok {f : Nat → Int × List Int} {p : Nat → Bool} : ∀ n : Nat, (∀ k, k < n → p k = true → 0 ≤ (f k).1) →
    (mnK f p n = (-1, []) ∧ ∀ k, k < n → p k = false) ∨ ∃ k, k < n ∧ p k = true ∧ mnK f p n = f k ∧ (∀ j, j < n → p j = true → (f k).1 ≤ (f j).1) ∧ ∀ j, j < k → p j = true → (f k).1 < (f j).1
  | 0, _ => Or.inl ⟨rfl, fun k z => absurd z (Nat.not_lt_zero _)⟩
  | n + 1, h => by
    have h0 := mnK_ok n (fun k z => h k (by omega))
    unfold mnK
    rcases h0 with ⟨e1, e2⟩ | ⟨k, k1, k2, k3, k4, k5⟩
    · rw [e1]
      by_cases e : p n = true
      · rw [if_pos ⟨e, Or.inl (by decide)⟩]
        refine Or.inr ⟨n, by omega, e, rfl, fun j z1 z2 => ?_, fun j z1 z2 => ?_⟩
        · by_cases ej : j = n
          · rw [ej]
            exact Int.le_refl _
          · have := e2 j (by omega)
            rw [this] at z2
            cases z2
        · have := e2 j z1
          rw [this] at z2
          cases z2
      · rw [if_neg (fun z => e z.1)]
        refine Or.inl ⟨rfl, fun j z => ?_⟩
        by_cases ej : j = n
        · rw [ej]
          cases hp : p n
          · rfl
          · exact absurd hp e
        · exact e2 j (by omega)
    · rw [k3]
      have hk := h k (by omega) k2
      by_cases e : p n = true ∧ ((f k).1 < 0 ∨ (f n).1 < (f k).1)
      · rw [if_pos e]
        have e3 : (f n).1 < (f k).1 := by rcases e.2 with z | z <;> omega
        refine Or.inr ⟨n, by omega, e.1, rfl, fun j z1 z2 => ?_, fun j z1 z2 => ?_⟩
        · by_cases ej : j = n
          · rw [ej]
            exact Int.le_refl _
          · have := k4 j (by omega) z2
            omega
        · have := k4 j z1 z2
          omega
      · rw [if_neg e]
        refine Or.inr ⟨k, by omega, k2, rfl, fun j z1 z2 => ?_, k5⟩
        by_cases ej : j = n
        · rw [ej] at z2 ⊢
          rcases Int.lt_or_le (f n).1 (f k).1 with z | z
          · exact absurd ⟨z2, Or.inr z⟩ e
          · exact z
        · exact k4 j (by omega) z2
theorem tb_tb : (List.range 64).all (fun a => (List.range 6).all (fun k => decide (a.testBit k = true → 2 ^ k ≤ a ∧ 0 < 2 ^ k ∧ dif (a : Nat) (bShl 1 (k : Nat)) = ((a - 2 ^ k : Nat) : Int)))) = true := by decide +kernel
theorem tb_any : (List.range 7).all (fun e => (List.range 64).all (fun a => decide (a < 2 ^ e → a ≠ 0 → (List.range e).any (fun k => a.testBit k) = true))) = true := by decide +kernel
theorem tbit {a k : Nat} (ha : a < 64) (hk : k < 6) (h : a.testBit k = true) : 2 ^ k ≤ a ∧ 0 < 2 ^ k ∧ dif (a : Nat) (bShl 1 (k : Nat)) = ((a - 2 ^ k : Nat) : Int) := tb2 tb_tb ha hk h
theorem tany {e a : Nat} (he : e ≤ 6) (ha : a < 64) (h : a < 2 ^ e) (h0 : a ≠ 0) : ∃ k, k < e ∧ a.testBit k = true := by
  have := tb2 tb_any (a := e) (c := a) (by omega) ha h h0
  obtain ⟨k, k1, k2⟩ := List.any_eq_true.mp this
  exact ⟨k, List.mem_range.mp k1, k2⟩
section WAYP
variable {ex ey : Int → Int} {e : Nat}
/-- the shortest way from a corner by all of a set, the first of them as numbers go: how long, in which order -/
def wyV (ex ey : Int → Int) (e : Nat) : Nat → Nat → Int → Int → Int × List Int
  | 0, _, _, _ => (0, [])
  | r + 1, a, u, v => if a = 0 then (0, []) else mnK (fun k => (apa u (ex k) + apa v (ey k) + (wyV ex ey e r (a - 2 ^ k) (ex k) (ey k)).1, (k : Int) :: (wyV ex ey e r (a - 2 ^ k) (ex k) (ey k)).2)) (fun k => a.testBit k) e
theorem wyV_nn (he : e ≤ 6) : ∀ (r a : Nat) (u v : Int), a < 2 ^ e → a < 64 → 0 ≤ (wyV ex ey e r a u v).1
  | 0, _, _, _, _, _ => Int.le_refl _
  | r + 1, a, u, v, ha, h64 => by
    unfold wyV
    by_cases h0 : a = 0
    · rw [if_pos h0]
      exact Int.le_refl _
    · rw [if_neg h0]
      have hf : ∀ k : Nat, 0 ≤ apa u (ex k) + apa v (ey k) + (wyV ex ey e r (a - 2 ^ k) (ex k) (ey k)).1 := fun k => by
        have := wyV_nn he r (a - 2 ^ k) (ex k) (ey k) (Nat.lt_of_le_of_lt (Nat.sub_le _ _) ha) (Nat.lt_of_le_of_lt (Nat.sub_le _ _) h64)
        have := apa_nn u (ex k)
        have := apa_nn v (ey k)
        omega
      rcases mnK_ok (f := fun k : Nat => (apa u (ex k) + apa v (ey k) + (wyV ex ey e r (a - 2 ^ k) (ex k) (ey k)).1, (k : Int) :: (wyV ex ey e r (a - 2 ^ k) (ex k) (ey k)).2)) (p := fun k => a.testBit k) e (fun k _ _ => hf k) with ⟨e1, e2⟩ | ⟨k, k1, k2, k3, k4, k5⟩
      · obtain ⟨k, k1, k2⟩ := tany he h64 ha h0
        have : a.testBit k = false := e2 k k1
        rw [this] at k2
        cases k2
      · rw [k3]
        exact hf k
theorem wyV_bd (he : e ≤ 6) (hx : ∀ k : Nat, k < e → (0 ≤ ex k ∧ ex k ≤ 11) ∧ (0 ≤ ey k ∧ ey k ≤ 11)) : ∀ (r a : Nat) (u v : Int), a < 2 ^ e → a < 64 → (0 ≤ u ∧ u ≤ 11) → (0 ≤ v ∧ v ≤ 11) → (wyV ex ey e r a u v).1 ≤ 22 * r
  | 0, _, _, _, _, _, _, _ => by show (0 : Int) ≤ _; omega
  | r + 1, a, u, v, ha, h64, hu, hv => by
    have hn := wyV_nn (ex := ex) (ey := ey) he (r + 1) a u v ha h64
    unfold wyV at hn ⊢
    by_cases h0 : a = 0
    · rw [if_pos h0]
      show (0 : Int) ≤ _
      omega
    · rw [if_neg h0] at hn ⊢
      have hf : ∀ k : Nat, 0 ≤ apa u (ex k) + apa v (ey k) + (wyV ex ey e r (a - 2 ^ k) (ex k) (ey k)).1 := fun k => by
        have := wyV_nn (ex := ex) (ey := ey) he r (a - 2 ^ k) (ex k) (ey k) (Nat.lt_of_le_of_lt (Nat.sub_le _ _) ha) (Nat.lt_of_le_of_lt (Nat.sub_le _ _) h64)
        have := apa_nn u (ex k)
        have := apa_nn v (ey k)
        omega
      rcases mnK_ok (f := fun k : Nat => (apa u (ex k) + apa v (ey k) + (wyV ex ey e r (a - 2 ^ k) (ex k) (ey k)).1, (k : Int) :: (wyV ex ey e r (a - 2 ^ k) (ex k) (ey k)).2)) (p := fun k => a.testBit k) e (fun k _ _ => hf k) with ⟨e1, e2⟩ | ⟨k, k1, k2, k3, k4, k5⟩
      · rw [e1] at hn
        exact absurd hn (by decide)
      · rw [k3]
        have b1 := wyV_bd he hx r (a - 2 ^ k) (ex k) (ey k) (Nat.lt_of_le_of_lt (Nat.sub_le _ _) ha) (Nat.lt_of_le_of_lt (Nat.sub_le _ _) h64) (hx k k1).1 (hx k k1).2
        have b2 := apa_bd hu (hx k k1).1
        have b3 := apa_bd hv (hx k k1).2
        show apa u (ex k) + apa v (ey k) + _ ≤ 22 * ((r + 1 : Nat) : Int)
        omega
theorem wyV_le (he : e ≤ 6) : ∀ (n a n' : Nat) (u v : Int), a < 64 → a < n → a < n' → wyV ex ey e n a u v = wyV ex ey e n' a u v
  | 0, a, _, _, _, _, h, _ => absurd h (Nat.not_lt_zero _)
  | n + 1, a, 0, _, _, _, _, h => absurd h (Nat.not_lt_zero _)
  | n + 1, a, n' + 1, u, v, h64, h1, h2 => by
    unfold wyV
    split
    · rfl
    · refine mnK_cg e fun k z1 z2 => ?_
      obtain ⟨b1, b2, -⟩ := tbit h64 (by omega) z2
      have b3 : a - 2 ^ k < a := Nat.sub_lt (Nat.lt_of_lt_of_le b2 b1) b2
      rw [wyV_le he n (a - 2 ^ k) n' (ex k) (ey k) (Nat.lt_trans b3 h64) (Nat.lt_of_lt_of_le b3 (Nat.le_of_lt_succ h1)) (Nat.lt_of_lt_of_le b3 (Nat.le_of_lt_succ h2))]
theorem wyV_s (he : e ≤ 6) {a : Nat} {u v : Int} (h64 : a < 64) (h0 : a ≠ 0) : wyV ex ey e 64 a u v = mnK (fun k => (apa u (ex k) + apa v (ey k) + (wyV ex ey e 64 (a - 2 ^ k) (ex k) (ey k)).1, (k : Int) :: (wyV ex ey e 64 (a - 2 ^ k) (ex k) (ey k)).2)) (fun k => a.testBit k) e := by
  have e63 : ∀ (j : Nat) (u v : Int), j < e → a.testBit j = true → wyV ex ey e 63 (a - 2 ^ j) u v = wyV ex ey e 64 (a - 2 ^ j) u v := fun j u v j1 j2 => by
    obtain ⟨b1, b2, -⟩ := tbit h64 (by omega) j2
    have b3 : a - 2 ^ j < a := Nat.sub_lt (Nat.lt_of_lt_of_le b2 b1) b2
    exact wyV_le he 63 _ 64 u v (Nat.lt_trans b3 h64) (Nat.lt_of_lt_of_le b3 (Nat.le_of_lt_succ h64)) (Nat.lt_trans b3 h64)
  show (if a = 0 then (0, []) else mnK (fun k => (apa u (ex k) + apa v (ey k) + (wyV ex ey e 63 (a - 2 ^ k) (ex k) (ey k)).1, (k : Int) :: (wyV ex ey e 63 (a - 2 ^ k) (ex k) (ey k)).2)) (fun k => a.testBit k) e) = _
  rw [if_neg h0]
  refine mnK_cg e fun k z1 z2 => ?_
  rw [e63 k _ _ z1 z2]
/-- the best of a set, by its first errand -/
theorem wyV_hd (he : e ≤ 6) {a : Nat} {u v : Int} (h64 : a < 64) (ha : a < 2 ^ e) (h0 : a ≠ 0) : ∃ k, k < e ∧ a.testBit k = true ∧ wyV ex ey e 64 a u v = (apa u (ex k) + apa v (ey k) + (wyV ex ey e 64 (a - 2 ^ k) (ex k) (ey k)).1, (k : Int) :: (wyV ex ey e 64 (a - 2 ^ k) (ex k) (ey k)).2) ∧
    (∀ j : Nat, j < e → a.testBit j = true → (wyV ex ey e 64 a u v).1 ≤ apa u (ex j) + apa v (ey j) + (wyV ex ey e 64 (a - 2 ^ j) (ex j) (ey j)).1) ∧
    ∀ j : Nat, j < k → a.testBit j = true → (wyV ex ey e 64 a u v).1 < apa u (ex j) + apa v (ey j) + (wyV ex ey e 64 (a - 2 ^ j) (ex j) (ey j)).1 := by
  have eg := wyV_s (ex := ex) (ey := ey) (u := u) (v := v) he h64 h0
  have hf : ∀ k : Nat, 0 ≤ apa u (ex k) + apa v (ey k) + (wyV ex ey e 64 (a - 2 ^ k) (ex k) (ey k)).1 := fun k => by
    have := wyV_nn (ex := ex) (ey := ey) he 64 (a - 2 ^ k) (ex k) (ey k) (Nat.lt_of_le_of_lt (Nat.sub_le _ _) ha) (Nat.lt_of_le_of_lt (Nat.sub_le _ _) h64)
    have := apa_nn u (ex k)
    have := apa_nn v (ey k)
    omega
  rcases mnK_ok (f := fun k : Nat => (apa u (ex k) + apa v (ey k) + (wyV ex ey e 64 (a - 2 ^ k) (ex k) (ey k)).1, (k : Int) :: (wyV ex ey e 64 (a - 2 ^ k) (ex k) (ey k)).2)) (p := fun k => a.testBit k) e (fun k _ _ => hf k) with ⟨e1, e2⟩ | ⟨k, k1, k2, k3, k4, k5⟩
  · obtain ⟨k, k1, k2⟩ := tany he h64 ha h0
    have : a.testBit k = false := e2 k k1
    rw [this] at k2
    cases k2
  · refine ⟨k, k1, k2, ?_, fun j z1 z2 => ?_, fun j z1 z2 => ?_⟩
    · rw [eg, k3]
    · rw [eg, k3]
      exact k4 j z1 z2
    · rw [eg, k3]
      exact k5 j z1 z2
/-- the least of the first n, as the component has it -/
def acG (F : Nat → Int × List Int) (p : Nat → Bool) (n : Nat) : Int := if (mnK F p n).1 < 0 then 1000000 else (mnK F p n).1
theorem mnK_s (F : Nat → Int × List Int) (p : Nat → Bool) (n : Nat) : mnK F p (n + 1) = if p n = true ∧ ((mnK F p n).1 < 0 ∨ (F n).1 < (mnK F p n).1) then F n else mnK F p n := rfl
theorem acG_f {F : Nat → Int × List Int} {p : Nat → Bool} {n : Nat} (h : p n = false) : acG F p (n + 1) = acG F p n := by
  have e : mnK F p (n + 1) = mnK F p n := if_neg (fun z => by rw [h] at z; cases z.1)
  unfold acG
  rw [e]
theorem acG_t {F : Nat → Int × List Int} {p : Nat → Bool} {n : Nat} (h : p n = true) (h0 : 0 ≤ (F n).1) (hb : (F n).1 < 1000000) : acG F p (n + 1) = if (F n).1 < acG F p n then (F n).1 else acG F p n := by
  unfold acG
  by_cases e1 : (mnK F p n).1 < 0
  · have e : mnK F p (n + 1) = F n := if_pos ⟨h, Or.inl e1⟩
    rw [e, if_neg (show ¬ (F n).1 < 0 by omega), if_pos e1, if_pos hb]
  · by_cases e2 : (F n).1 < (mnK F p n).1
    · have e : mnK F p (n + 1) = F n := if_pos ⟨h, Or.inr e2⟩
      rw [e, if_neg (show ¬ (F n).1 < 0 by omega), if_neg e1, if_pos e2]
    · have e : mnK F p (n + 1) = mnK F p n := if_neg (fun z => by rcases z.2 with y | y; exact e1 y; exact e2 y)
      rw [e, if_neg e1, if_neg e2]
def accK (ex ey : Int → Int) (e a : Nat) (u v : Int) (n : Nat) : Int := acG (fun k => (apa u (ex k) + apa v (ey k) + (wyV ex ey e 64 (a - 2 ^ k) (ex k) (ey k)).1, (k : Int) :: (wyV ex ey e 64 (a - 2 ^ k) (ex k) (ey k)).2)) (fun k => a.testBit k) n
theorem accK_0 (a : Nat) (u v : Int) : accK ex ey e a u v 0 = 1000000 := rfl
theorem accK_f {a n : Nat} {u v : Int} (h : a.testBit n = false) : accK ex ey e a u v (n + 1) = accK ex ey e a u v n := acG_f h
theorem accK_t (he : e ≤ 6) {a n : Nat} {u v : Int} (h64 : a < 64) (ha : a < 2 ^ e) (h : a.testBit n = true) (hb : apa u (ex n) + apa v (ey n) + (wyV ex ey e 64 (a - 2 ^ n) (ex n) (ey n)).1 < 1000000) :
    accK ex ey e a u v (n + 1) = if apa u (ex n) + apa v (ey n) + (wyV ex ey e 64 (a - 2 ^ n) (ex n) (ey n)).1 < accK ex ey e a u v n then apa u (ex n) + apa v (ey n) + (wyV ex ey e 64 (a - 2 ^ n) (ex n) (ey n)).1 else accK ex ey e a u v n := by
  have hg := wyV_nn (ex := ex) (ey := ey) he 64 (a - 2 ^ n) (ex n) (ey n) (Nat.lt_of_le_of_lt (Nat.sub_le _ _) ha) (Nat.lt_of_le_of_lt (Nat.sub_le _ _) h64)
  have h1 := apa_nn u (ex n)
  have h2 := apa_nn v (ey n)
  exact acG_t (F := fun k : Nat => (apa u (ex k) + apa v (ey k) + (wyV ex ey e 64 (a - 2 ^ k) (ex k) (ey k)).1, (k : Int) :: (wyV ex ey e 64 (a - 2 ^ k) (ex k) (ey k)).2)) (p := fun k => a.testBit k) h (by show 0 ≤ apa u (ex n) + apa v (ey n) + _; omega) hb
theorem accK_e (he : e ≤ 6) {a : Nat} {u v : Int} (h64 : a < 64) (ha : a < 2 ^ e) (h0 : a ≠ 0) : accK ex ey e a u v e = (wyV ex ey e 64 a u v).1 := by
  have hg := wyV_nn (ex := ex) (ey := ey) he 64 a u v ha h64
  unfold accK acG
  rw [← wyV_s he h64 h0, if_neg (by omega)]
/-- all orders of a set, as numbers go -/
def plB (e : Nat) : Nat → Nat → List (List Int)
  | 0, _ => [[]]
  | r + 1, a => if a = 0 then [[]] else (List.range e).flatMap (fun k => if a.testBit k then (plB e r (a - 2 ^ k)).map (fun p => (k : Int) :: p) else [])
/-- the first least of a list -/
def bsL (f : List Int → Int) (b : Int × List Int) : List (List Int) → Int × List Int
  | [] => b
  | p :: r => bsL f (if b.1 < 0 ∨ f p < b.1 then (f p, p) else b) r
theorem bsL_app (f : List Int → Int) : ∀ (A B : List (List Int)) (b : Int × List Int), bsL f b (A ++ B) = bsL f (bsL f b A) B
  | [], _, _ => rfl
  | p :: r, B, b => bsL_app f r B _
def cmb (b c : Int × List Int) : Int × List Int := if b.1 < 0 ∨ c.1 < b.1 then c else b
theorem bsL_map {f f' : List Int → Int} {k c : Int} (hf : ∀ p, f (k :: p) = c + f' p) (hn : ∀ p, 0 ≤ f' p) (hc : 0 ≤ c) (b0 : Int × List Int) : ∀ (Q : List (List Int)) (b b' : Int × List Int), b = (if b'.1 < 0 then b0 else cmb b0 (c + b'.1, k :: b'.2)) → bsL f b (Q.map (fun p => k :: p)) = if (bsL f' b' Q).1 < 0 then b0 else cmb b0 (c + (bsL f' b' Q).1, k :: (bsL f' b' Q).2)
  | [], b, b', h => h
  | p :: Q, b, b', h => by
    show bsL f (if b.1 < 0 ∨ f (k :: p) < b.1 then (f (k :: p), k :: p) else b) (Q.map (fun p => k :: p)) = if (bsL f' (if b'.1 < 0 ∨ f' p < b'.1 then (f' p, p) else b') Q).1 < 0 then b0 else cmb b0 (c + (bsL f' (if b'.1 < 0 ∨ f' p < b'.1 then (f' p, p) else b') Q).1, k :: (bsL f' (if b'.1 < 0 ∨ f' p < b'.1 then (f' p, p) else b') Q).2)
    refine bsL_map hf hn hc b0 Q _ _ ?_
    have hp := hn p
    rw [hf p, h]
    by_cases h1 : b'.1 < 0
    · rw [if_pos h1, if_pos (Or.inl h1), if_neg (show ¬ (f' p, p).1 < 0 by show ¬ f' p < 0; omega)]
      rfl
    · rw [if_neg h1]
      unfold cmb
      by_cases h2 : b0.1 < 0 ∨ c + b'.1 < b0.1
      · rw [if_pos h2]
        by_cases h3 : f' p < b'.1
        · rw [if_pos (show (c + b'.1 < 0 ∨ c + f' p < c + b'.1) from Or.inr (by omega)), if_pos (Or.inr h3), if_neg (show ¬ f' p < 0 by omega), if_pos (show b0.1 < 0 ∨ c + f' p < b0.1 by omega)]
        · rw [if_neg (show ¬ (c + b'.1 < 0 ∨ c + f' p < c + b'.1) by omega), if_neg (show ¬ (b'.1 < 0 ∨ f' p < b'.1) by omega), if_neg h1, if_pos h2]
      · rw [if_neg h2]
        by_cases h3 : f' p < b'.1
        · rw [if_pos (show b'.1 < 0 ∨ f' p < b'.1 from Or.inr h3), if_neg (show ¬ (f' p, p).1 < 0 by show ¬ f' p < 0; omega)]
        · rw [if_neg (show ¬ (b'.1 < 0 ∨ f' p < b'.1) by omega), if_neg h1, if_neg h2, if_neg (show ¬ (b0.1 < 0 ∨ c + f' p < b0.1) by omega)]
theorem bs_wyV (he : e ≤ 6) : ∀ (r a : Nat) (u v : Int), a < 2 ^ e → a < 64 → bsL (pth ex ey u v) (-1, []) (plB e r a) = wyV ex ey e r a u v
  | 0, _, _, _, _, _ => rfl
  | r + 1, a, u, v, ha, h64 => by
    unfold plB wyV
    by_cases h0 : a = 0
    · rw [if_pos h0, if_pos h0]
      rfl
    · rw [if_neg h0, if_neg h0]
      suffices H : ∀ n : Nat, n ≤ e → bsL (pth ex ey u v) (-1, []) ((List.range n).flatMap (fun k => if a.testBit k then (plB e r (a - 2 ^ k)).map (fun p => (k : Int) :: p) else [])) = mnK (fun k => (apa u (ex k) + apa v (ey k) + (wyV ex ey e r (a - 2 ^ k) (ex k) (ey k)).1, (k : Int) :: (wyV ex ey e r (a - 2 ^ k) (ex k) (ey k)).2)) (fun k => a.testBit k) n from H e (Nat.le_refl _)
      intro n
      induction n with
      | zero => intro _; rfl
      | succ n ih =>
        intro hn
        have i1 := ih (by omega)
        rw [List.range_succ, List.flatMap_append, bsL_app, i1, List.flatMap_cons, List.flatMap_nil, List.append_nil]
        generalize hB : mnK (fun k => (apa u (ex k) + apa v (ey k) + (wyV ex ey e r (a - 2 ^ k) (ex k) (ey k)).1, (k : Int) :: (wyV ex ey e r (a - 2 ^ k) (ex k) (ey k)).2)) (fun k => a.testBit k) n = B
        show _ = if a.testBit n = true ∧ ((mnK _ _ n).1 < 0 ∨ _ < (mnK _ _ n).1) then _ else mnK _ _ n
        rw [hB]
        by_cases ht : a.testBit n = true
        · rw [if_pos ht]
          have i2 := bs_wyV he r (a - 2 ^ n) (ex n) (ey n) (Nat.lt_of_le_of_lt (Nat.sub_le _ _) ha) (Nat.lt_of_le_of_lt (Nat.sub_le _ _) h64)
          have i3 := wyV_nn (ex := ex) (ey := ey) he r (a - 2 ^ n) (ex n) (ey n) (Nat.lt_of_le_of_lt (Nat.sub_le _ _) ha) (Nat.lt_of_le_of_lt (Nat.sub_le _ _) h64)
          have h1 := apa_nn u (ex n)
          have h2 := apa_nn v (ey n)
          have := bsL_map (f := pth ex ey u v) (f' := pth ex ey (ex n) (ey n)) (k := (n : Int)) (c := apa u (ex n) + apa v (ey n)) (fun p => rfl) (fun p => pth_nn ex ey p _ _) (by omega) B (plB e r (a - 2 ^ n)) B (-1, []) (by rw [if_pos (show ((-1 : Int), ([] : List Int)).1 < 0 by decide)])
          rw [this, i2, if_neg (by omega)]
          unfold cmb
          by_cases h3 : B.1 < 0 ∨ apa u (ex n) + apa v (ey n) + (wyV ex ey e r (a - 2 ^ n) (ex n) (ey n)).1 < B.1
          · rw [if_pos h3, if_pos ⟨ht, h3⟩]
          · rw [if_neg h3, if_neg (fun z => h3 z.2)]
        · rw [if_neg ht, if_neg (fun z => ht z.1)]
          rfl
/-- the twin's next order -/
def srI (A : Int → Int) : Nat → Int
  | 0 => -1
  | i + 1 => if A (i + 1) < A i then srI A i else i
def srJ (A : Int → Int) (v : Int) : Nat → Int
  | 0 => 0
  | j + 1 => if A j < v then srJ A v j else j
def rvA : (Int → Int) → Nat → Int → Int → (Int → Int)
  | A, 0, _, _ => A
  | A, r + 1, a, b => if a < b then rvA (up1 (up1 A a (A b)) b (A a)) r (a + 1) (b - 1) else A
def nxA (n : Nat) (A : Int → Int) : Option (Int → Int) :=
  if srI A (n - 1) < 0 then none else some (rvA (up1 (up1 A (srI A (n - 1)) (A (srJ A (A (srI A (n - 1))) n))) (srJ A (A (srI A (n - 1))) n) (A (srI A (n - 1)))) 6 (srI A (n - 1) + 1) ((n : Int) - 1))
def lf (p : List Int) : Int → Int := fun k => p.getD k.toNat 0
def chB (n : Nat) : List (List Int) → Bool
  | [] => false
  | [p] => (nxA n (lf p)).isNone
  | p :: q :: r => (match nxA n (lf p) with
    | none => false
    | some B => (List.range n).all (fun k => decide (B k = lf q k))) && chB n (q :: r)
def okB (n : Nat) (P : List (List Int)) : Bool := P.all (fun p => decide (p.length = n) && p.all (fun x => decide (0 ≤ x ∧ x < (n : Int))))
def allP (n : Nat) : List (List Int) := plB n 64 (2 ^ n - 1)
def idP (n : Nat) : List Int := (List.range n).map (fun k : Nat => (k : Int))
theorem tb_ch : (List.range 7).all (fun n => chB n (allP n)) = true := by decide +kernel
theorem tb_ok : (List.range 7).all (fun n => okB n (allP n) && decide ((allP n).head? = some (idP n))) = true := by decide +kernel
end WAYP
