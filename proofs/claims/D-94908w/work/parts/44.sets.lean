/-! SETS of men, as bits -/
set_option maxRecDepth 100000
def dif (a c : Int) : Int := bAnd a (bXor c (-1))
theorem tb_and : (List.range 128).all (fun a => (List.range 128).all (fun c => decide (bAnd (a : Nat) (c : Nat) = ((a &&& c : Nat) : Int)))) = true := by decide +kernel
theorem tb_or : (List.range 128).all (fun a => (List.range 128).all (fun c => decide (bOr (a : Nat) (c : Nat) = ((a ||| c : Nat) : Int)))) = true := by decide +kernel
theorem tb_dif : (List.range 128).all (fun a => (List.range 128).all (fun c => decide (dif (a : Nat) (c : Nat) = ((a &&& (127 ^^^ c) : Nat) : Int)))) = true := by decide +kernel
theorem tb_bt : (List.range 128).all (fun a => (List.range 7).all (fun m => decide (bt (a : Nat) (m : Nat) = if a.testBit m then 1 else 0))) = true := by decide +kernel
theorem tb_shl : (List.range 7).all (fun m => decide (bShl 1 (m : Nat) = ((2 ^ m : Nat) : Int))) = true := by decide +kernel
theorem tb_clr : (List.range 128).all (fun a => (List.range 7).all (fun m => decide (bt (a : Nat) (m : Nat) = 1 → dif (a : Nat) (bShl 1 (m : Nat)) < (a : Nat)))) = true := by decide +kernel
theorem tb2 {p : Nat → Nat → Prop} [∀ a c, Decidable (p a c)] {N M : Nat} (h : (List.range N).all (fun a => (List.range M).all (fun c => decide (p a c))) = true) {a c : Nat} (ha : a < N) (hc : c < M) : p a c :=
  of_decide_eq_true (List.all_eq_true.mp (List.all_eq_true.mp h a (List.mem_range.mpr ha)) c (List.mem_range.mpr hc))
theorem tb1 {p : Nat → Prop} [∀ a, Decidable (p a)] {N : Nat} (h : (List.range N).all (fun a => decide (p a)) = true) {a : Nat} (ha : a < N) : p a :=
  of_decide_eq_true (List.all_eq_true.mp h a (List.mem_range.mpr ha))
theorem nat_lt {a : Int} {n : Nat} (h : 0 ≤ a ∧ a < n) : ∃ k : Nat, a = k ∧ k < n := ⟨a.toNat, by omega, by omega⟩
theorem and128 {a c : Nat} (ha : a < 128) : a &&& c < 128 := Nat.lt_of_le_of_lt Nat.and_le_left ha
theorem bAnd_bt {a c m : Int} (ha : 0 ≤ a ∧ a < 128) (hc : 0 ≤ c ∧ c < 128) (hm : 0 ≤ m ∧ m < 7) : bt (bAnd a c) m = (if bt a m = 1 ∧ bt c m = 1 then 1 else 0) ∧ (0 ≤ bAnd a c ∧ bAnd a c < 128) := by
  obtain ⟨a, rfl, ha'⟩ := nat_lt (n := 128) ha
  obtain ⟨c, rfl, hc'⟩ := nat_lt (n := 128) hc
  obtain ⟨m, rfl, hm'⟩ := nat_lt (n := 7) hm
  have h1 := and128 (c := c) ha'
  rw [tb2 tb_and ha' hc', tb2 tb_bt h1 hm', tb2 tb_bt ha' hm', tb2 tb_bt hc' hm', Nat.testBit_and]
  refine ⟨?_, by omega, by omega⟩
  cases a.testBit m <;> cases c.testBit m <;> simp
theorem bOr_bt {a c m : Int} (ha : 0 ≤ a ∧ a < 128) (hc : 0 ≤ c ∧ c < 128) (hm : 0 ≤ m ∧ m < 7) : bt (bOr a c) m = (if bt a m = 1 ∨ bt c m = 1 then 1 else 0) ∧ (0 ≤ bOr a c ∧ bOr a c < 128) := by
  obtain ⟨a, rfl, ha'⟩ := nat_lt (n := 128) ha
  obtain ⟨c, rfl, hc'⟩ := nat_lt (n := 128) hc
  obtain ⟨m, rfl, hm'⟩ := nat_lt (n := 7) hm
  have h1 : a ||| c < 128 := Nat.or_lt_two_pow (n := 7) ha' hc'
  rw [tb2 tb_or ha' hc', tb2 tb_bt h1 hm', tb2 tb_bt ha' hm', tb2 tb_bt hc' hm', Nat.testBit_or]
  refine ⟨?_, by omega, by omega⟩
  cases a.testBit m <;> cases c.testBit m <;> simp
theorem dif_bt {a c m : Int} (ha : 0 ≤ a ∧ a < 128) (hc : 0 ≤ c ∧ c < 128) (hm : 0 ≤ m ∧ m < 7) : bt (dif a c) m = (if bt a m = 1 ∧ bt c m = 0 then 1 else 0) ∧ (0 ≤ dif a c ∧ dif a c < 128) := by
  obtain ⟨a, rfl, ha'⟩ := nat_lt (n := 128) ha
  obtain ⟨c, rfl, hc'⟩ := nat_lt (n := 128) hc
  obtain ⟨m, rfl, hm'⟩ := nat_lt (n := 7) hm
  have h1 := and128 (c := 127 ^^^ c) ha'
  rw [tb2 tb_dif ha' hc', tb2 tb_bt h1 hm', tb2 tb_bt ha' hm', tb2 tb_bt hc' hm', Nat.testBit_and, Nat.testBit_xor, show (127 : Nat).testBit m = true by rw [show (127 : Nat) = 2 ^ 7 - 1 by rfl, Nat.testBit_two_pow_sub_one]; exact decide_eq_true hm']
  refine ⟨?_, by omega, by omega⟩
  cases a.testBit m <;> cases c.testBit m <;> simp
theorem shl_bt {m o : Int} (hm : 0 ≤ m ∧ m < 7) (ho : 0 ≤ o ∧ o < 7) : bt (bShl 1 m) o = (if o = m then 1 else 0) ∧ (0 ≤ bShl 1 m ∧ bShl 1 m < 128) := by
  obtain ⟨m, rfl, hm'⟩ := nat_lt (n := 7) hm
  obtain ⟨o, rfl, ho'⟩ := nat_lt (n := 7) ho
  have h1 : (2 : Nat) ^ m < 128 := Nat.pow_lt_pow_right (n := 7) (by omega) hm'
  rw [tb1 tb_shl hm', tb2 tb_bt h1 ho', Nat.testBit_two_pow]
  refine ⟨?_, Int.natCast_nonneg _, Int.ofNat_lt.mpr h1⟩
  by_cases e : m = o
  · rw [if_pos (by simp [e]), if_pos (by omega)]
  · rw [if_neg (by simp [e]), if_neg (by omega)]
theorem bt_ext {a c : Int} (ha : 0 ≤ a ∧ a < 128) (hc : 0 ≤ c ∧ c < 128) (h : ∀ m, 0 ≤ m → m < 7 → bt a m = bt c m) : a = c := by
  obtain ⟨a, rfl, ha'⟩ := nat_lt (n := 128) ha
  obtain ⟨c, rfl, hc'⟩ := nat_lt (n := 128) hc
  congr 1
  refine Nat.eq_of_testBit_eq fun m => ?_
  by_cases hm : m < 7
  · have := h m (by omega) (by omega)
    rw [tb2 tb_bt ha' hm, tb2 tb_bt hc' hm] at this
    cases e1 : a.testBit m <;> cases e2 : c.testBit m <;> simp [e1, e2] at this ⊢
  · rw [Nat.testBit_lt_two_pow (Nat.lt_of_lt_of_le ha' (Nat.pow_le_pow_right (n := 2) (i := 7) (by omega) (by omega))), Nat.testBit_lt_two_pow (Nat.lt_of_lt_of_le hc' (Nat.pow_le_pow_right (n := 2) (i := 7) (by omega) (by omega)))]
theorem clr_lt {a m : Int} (ha : 0 ≤ a ∧ a < 128) (hm : 0 ≤ m ∧ m < 7) (h : bt a m = 1) : dif a (bShl 1 m) < a := by
  obtain ⟨a, rfl, ha'⟩ := nat_lt (n := 128) ha
  obtain ⟨m, rfl, hm'⟩ := nat_lt (n := 7) hm
  exact tb2 tb_clr ha' hm' h
theorem bOr_0 {a : Int} (ha : rg32 a) : bOr a 0 = a := by
  show (Int32.ofInt a ||| Int32.ofInt 0).toInt = a
  rw [show Int32.ofInt 0 = (0 : Int32) from rfl, Int32.or_zero]
  exact am_ti ha
/-- how many bits -/
def bits (a : Int) : Int := sumI 7 (bt a)
theorem bits_bd (a : Int) : 0 ≤ bits a ∧ bits a ≤ 7 := by
  have := sumI_bd (n := 7) (b := 1) (f := bt a) (by omega) (fun k _ _ => by have := bt_01 a k; omega)
  unfold bits
  omega
/-- the numbers below n of which p holds, as bits -/
def bset (p : Int → Bool) : Nat → Int
  | 0 => 0
  | n + 1 => if p n then bOr (bset p n) (bShl 1 n) else bset p n
theorem bset_ok (p : Int → Bool) : ∀ n : Nat, n ≤ 7 → (0 ≤ bset p n ∧ bset p n < 128) ∧ ∀ m, 0 ≤ m → m < 7 → bt (bset p n) m = if m < n ∧ p m = true then 1 else 0
  | 0, _ => ⟨⟨by show (0 : Int) ≤ 0; omega, by show (0 : Int) < 128; omega⟩, fun m h0 h1 => by rw [if_neg (by omega)]; exact bt_0 ⟨h0, h1⟩⟩
  | n + 1, hn => by
    obtain ⟨i1, i2⟩ := bset_ok p n (by omega)
    unfold bset
    by_cases e : p n = true
    · rw [if_pos e]
      refine ⟨(bt_or i1 (m := n) (o := 0) ⟨by omega, by omega⟩ ⟨by omega, by omega⟩).2, fun m h0 h1 => ?_⟩
      rw [(bt_or i1 (m := n) ⟨by omega, by omega⟩ ⟨h0, h1⟩).1]
      by_cases e2 : m = n
      · subst e2
        rw [if_pos rfl, if_pos ⟨by omega, e⟩]
      · rw [if_neg e2, i2 m h0 h1]
        by_cases e3 : m < n ∧ p m = true
        · rw [if_pos e3, if_pos ⟨by omega, e3.2⟩]
        · rw [if_neg e3, if_neg (fun z => e3 ⟨by omega, z.2⟩)]
    · rw [if_neg e]
      refine ⟨i1, fun m h0 h1 => ?_⟩
      rw [i2 m h0 h1]
      by_cases e3 : m < n ∧ p m = true
      · rw [if_pos e3, if_pos ⟨by omega, e3.2⟩]
      · rw [if_neg e3, if_neg (fun z => ?_)]
        by_cases e2 : m = n
        · subst e2
          exact e z.2
        · exact e3 ⟨by omega, z.2⟩
theorem bset_cg {p r : Int → Bool} (n : Nat) (h : ∀ m : Int, 0 ≤ m → m < n → p m = r m) : bset p n = bset r n := by
  induction n with
  | zero => rfl
  | succ n ih =>
    unfold bset
    rw [h n (by omega) (by omega), ih (fun m h0 h1 => h m h0 (by omega))]
theorem bset_s (p : Int → Bool) {i : Int} (h : 0 ≤ i) : bset p (i + 1).toNat = if p i then bOr (bset p i.toNat) (bShl 1 i) else bset p i.toNat := by
  rw [show (i + 1).toNat = i.toNat + 1 by omega]
  show (if p (i.toNat : Nat) then _ else _) = _
  rw [show ((i.toNat : Nat) : Int) = i by omega]
