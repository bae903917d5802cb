/-! READING: what the parser makes of tokens (K kinds, V values), as a function -/
set_option maxRecDepth 100000
def opK (k : Int) : Int := if k = 8 then 43 else if k = 9 then 45 else if k = 10 then 42 else 47
/-- m: 0 a unit, 1 a part, 2 what follows a unit, 3 a sum, 4 what follows a part; o: how many are open; from token a on; ta: what was read ahead -/
def pE (K V : Int → Int) : Nat → Nat → Int → Int → Tau → (Tau × Int) ⊕ (Int × Int)
  | 0, _, _, _, _ => .inr (0, 0)
  | f + 1, 0, o, a, ta => if K a = 2 then (if 400 ≤ a then .inr (2, a) else .inl (fun _ => (V a, 0), a + 1))
    else if 31 ≤ K a ∧ K a ≤ 36 then (if 400 ≤ a then .inr (2, a) else .inl (fun v => (v (K a - 31), 0), a + 1))
    else if K a ≠ 6 then .inr (1, a) else if o = 6 then .inr (2, a) else if 400 ≤ a then .inr (2, a)
    else match pE K V f 3 (o + 1) (a + 1) ta with
      | .inr e => .inr e
      | .inl q => if K q.2 ≠ 7 then .inr (1, q.2) else if 400 ≤ q.2 then .inr (2, q.2) else .inl (q.1, q.2 + 1)
  | f + 1, 1, o, a, ta => match pE K V f 0 o a ta with
    | .inr e => .inr e
    | .inl q => pE K V f 2 o q.2 q.1
  | f + 1, 2, o, a, ta => if K a = 10 ∨ K a = 15 then (if 400 ≤ a then .inr (2, a) else match pE K V f 0 o (a + 1) ta with
      | .inr e => .inr e
      | .inl q => pE K V f 2 o q.2 (jnT (opK (K a)) ta q.1)) else .inl (ta, a)
  | f + 1, 3, o, a, ta => match pE K V f 1 o a ta with
    | .inr e => .inr e
    | .inl q => pE K V f 4 o q.2 q.1
  | f + 1, _, o, a, ta => if K a = 8 ∨ K a = 9 then (if 400 ≤ a then .inr (2, a) else match pE K V f 1 o (a + 1) ta with
      | .inr e => .inr e
      | .inl q => pE K V f 4 o q.2 (jnT (opK (K a)) ta q.1)) else .inl (ta, a)
/-- fuel enough -/
def rkE (m : Nat) (a : Int) : Int := 5 * (401 - a) + (if m = 1 then 1 else if m = 3 then 2 else 0)
