/-! the heap's picture: lemmas -/
set_option maxRecDepth 100000
abbrev rg32 (x : Int) : Prop := -2147483648 ≤ x ∧ x ≤ 2147483647
theorem am_ti {x : Int} (h : rg32 x) : (Int32.ofInt x).toInt = x := Int32.toInt_ofInt_of_le (by omega) (by omega)
theorem am_lt {x y : Int} (hx : rg32 x) (hy : rg32 y) : Int32.ofInt x < Int32.ofInt y ↔ x < y := by rw [Int32.lt_iff_toInt_lt, am_ti hx, am_ti hy]
theorem am_le {x y : Int} (hx : rg32 x) (hy : rg32 y) : Int32.ofInt x ≤ Int32.ofInt y ↔ x ≤ y := by rw [Int32.le_iff_toInt_le, am_ti hx, am_ti hy]
theorem am_eq {x y : Int} (hx : rg32 x) (hy : rg32 y) : Int32.ofInt x = Int32.ofInt y ↔ x = y := by rw [← Int32.toInt_inj, am_ti hx, am_ti hy]
theorem am_0 : (0 : Int32) = Int32.ofInt 0 := rfl
theorem am_r0 : rg32 0 := by constructor <;> decide
theorem am_clamp {x : Int} (h : rg32 x) : (Int32.ofInt x).toNatClampNeg = x.toNat := by
  show (Int32.ofInt x).toInt.toNat = x.toNat
  rw [am_ti h]
theorem am_inx {x n : Int} (hx : 0 ≤ x ∧ x < n) (hn : n ≤ 2147483647) : ¬ (Int32.ofInt x < 0 ∨ n.toNat ≤ (Int32.ofInt x).toNatClampNeg) := by
  have hr : rg32 x := ⟨by omega, by omega⟩
  rw [am_clamp hr, am_0, am_lt hr am_r0]
  omega
theorem am_Rel.lo {G : am_G} {L : am_L} {h : am_H} {H : Heap} (hR : am_Rel G L h H) {a : Int} (hk : kd L a ≠ 99) : a ≠ 0 := by have := (hR.2.1 a hk).1; omega
theorem am_Rel.at {G : am_G} {L : am_L} {h : am_H} {H : Heap} (hR : am_Rel G L h H) {a : Int} (hk : kd L a ≠ 99) : am_ok G L h a H := (hR.2.1 a hk).2.2.1
theorem am_Rel.adlt {G : am_G} {L : am_L} {h : am_H} {H : Heap} (hR : am_Rel G L h H) {a : Int} (hk : kd L a ≠ 99) : am_ad G a < H.size := by
  rcases hR.at hk with ⟨-, q, -, -, cell, h1, -⟩ | ⟨-, -, -, -, h1⟩
  · exact (Array.getElem?_eq_some_iff.mp h1).1
  · exact (Array.getElem?_eq_some_iff.mp h1).1
theorem am_Rel.arr {G : am_G} {L : am_L} {h : am_H} {H : Heap} (hR : am_Rel G L h H) {a : Int} {k : Nat} (hk : kd L a = k) (h1 : 100 ≤ k) (h2 : k < 120) : 0 ≤ ln L a ∧ ln L a ≤ 2147483647 ∧ H[am_ad G a]? = some (arrV (G.2.2.2.2.2 k) (ln L a).toNat (fun j => am_val G (am_tg (am_aty k)) (am_ct L h a (j : Int)))) := by
  subst hk
  rcases hR.at (a := a) (by omega) with ⟨h3, -⟩ | ⟨-, -, h3, h4, h5⟩
  · omega
  · exact ⟨h3, h4, h5⟩
theorem am_Rel.obj {G : am_G} {L : am_L} {h : am_H} {H : Heap} (hR : am_Rel G L h H) {a : Int} {k : Nat} (hk : kd L a = k) (h1 : k < 99) {q : vw_C} (hq : am_cl[k]? = some q) : t_OB (am_ad G a) (G.2.2.2.1 k) q.2.2 (G.2.2.2.2.1 k) H (fun j => am_val G (am_tg (am_fty k j)) (am_ct L h a (j : Int))) := by
  subst hk
  rcases hR.at (a := a) (by omega) with ⟨-, q', h4, -, h5⟩ | ⟨h3, -⟩
  · cases hq.symm.trans h4
    exact h5
  · omega
theorem am_ad_ne {G : am_G} {L : am_L} {h : am_H} {H : Heap} (hR : am_Rel G L h H) {a b : Int} (ha : 200 ≤ a) (hb : kd L b ≠ 99) (hne : b ≠ a) : am_ad G b ≠ am_ad G a := by
  obtain ⟨h0, h1, -, h2⟩ := hR.2.1 b hb
  unfold am_ad at h2 ⊢
  rw [if_neg (by omega : ¬ a < 200)]
  by_cases hb2 : b < 200
  · have h3 := (h2 hb2).1
    rw [if_pos hb2] at h3 ⊢
    omega
  · rw [if_neg hb2]
    omega
theorem am_ok.to {G : am_G} {L L' : am_L} {h h' : am_H} {b : Int} {H H' : Heap} (e : am_ok G L h b H) (hk : kd L' b = kd L b) (hl : ln L' b = ln L b) (hc : ∀ j : Int, am_ct L' h' b j = am_ct L h b j) (hH : H'[am_ad G b]? = H[am_ad G b]?) : am_ok G L' h' b H' := by
  unfold am_ok at e ⊢
  rw [hk, hl, hH, show (fun j : Nat => am_val G (am_tg (am_aty (kd L b))) (am_ct L' h' b (j : Int))) = fun j : Nat => am_val G (am_tg (am_aty (kd L b))) (am_ct L h b (j : Int)) from funext fun j => by rw [hc], show (fun j : Nat => am_val G (am_tg (am_fty (kd L b) j)) (am_ct L' h' b (j : Int))) = fun j : Nat => am_val G (am_tg (am_fty (kd L b) j)) (am_ct L h b (j : Int)) from funext fun j => by rw [hc]]
  rcases e with ⟨h1, q, h2, h3, h4⟩ | h1
  · exact Or.inl ⟨h1, q, h2, h3, h4.kept hH⟩
  · exact Or.inr h1
theorem am_ct_st {L : am_L} {h : am_H} {a j v b i : Int} (hm : am_imm (kd L a) j = false) : am_ct L (am_st h a j v) b i = if b = a ∧ i = j then v else am_ct L h b i := by
  unfold am_ct am_st
  by_cases e : b = a ∧ i = j
  · obtain ⟨rfl, rfl⟩ := e
    rw [if_neg (by rw [hm]; decide), if_pos ⟨rfl, rfl⟩, if_pos ⟨rfl, rfl⟩]
  · rw [if_neg e, if_neg e]
theorem am_ct_pf {L : am_L} {h : am_H} {a j v b i : Int} (hm : am_imm (kd L a) j = true) : am_ct (am_pf L a j v) h b i = if b = a ∧ i = j then v else am_ct L h b i := by
  unfold am_ct
  rw [kd_pf, fF_pf]
  by_cases e : b = a ∧ i = j
  · obtain ⟨rfl, rfl⟩ := e
    rw [if_pos hm, if_pos ⟨rfl, rfl⟩, if_pos ⟨rfl, rfl⟩]
  · rw [if_neg e, if_neg e]
/-- a cell written, in the heap -/
theorem am_Rel.st {G : am_G} {L : am_L} {h : am_H} {H H1 : Heap} (hR : am_Rel G L h H) {a j v : Int} (hk : kd L a ≠ 99) (hm : am_imm (kd L a) j = false) (hr : am_rg (am_ty (kd L a) j) v)
    (hok : am_ok G L (am_st h a j v) a H1) (hz : H1.size = H.size) (ho : ∀ q, q ≠ am_ad G a → H1[q]? = H[q]?) : am_Rel G L (am_st h a j v) H1 := by
  obtain ⟨⟨r1, r2, r3⟩, r4, r5, r6⟩ := id hR
  obtain ⟨k1, k2, k3, k4⟩ := r4 a hk
  have ha : 200 ≤ a := by
    rcases Int.lt_or_le a 200 with q | q
    · have := (k4 q).2 j
      rw [hm] at this
      cases this
    · exact q
  refine ⟨⟨r1, r2, by rw [hz]; exact r3⟩, fun b hb => ?_, fun b i hb => ⟨?_, (r5 b i hb).2⟩, fun b i => ?_⟩
  · obtain ⟨b1, b2, b3, b4⟩ := r4 b hb
    refine ⟨b1, b2, ?_, b4⟩
    by_cases e : b = a
    · subst e
      exact hok
    · exact b3.to rfl rfl (fun i => by rw [am_ct_st hm, if_neg (fun q => e q.1)]) (ho _ (am_ad_ne hR ha hb e))
  · rw [am_st_at, if_neg (fun q => by omega)]
    exact (r5 b i hb).1
  · rw [am_ct_st hm]
    by_cases e : b = a ∧ i = j
    · obtain ⟨rfl, rfl⟩ := e
      rw [if_pos ⟨rfl, rfl⟩]
      exact hr
    · rw [if_neg e]
      exact r6 b i
/-- a cell written, in the layout -/
theorem am_Rel.pf {G : am_G} {L : am_L} {h : am_H} {H H1 : Heap} (hR : am_Rel G L h H) {a j v : Int} (ha : 200 ≤ a) (hk : kd L a ≠ 99) (hm : am_imm (kd L a) j = true) (hr : am_rg (am_ty (kd L a) j) v)
    (hok : am_ok G (am_pf L a j v) h a H1) (hz : H1.size = H.size) (ho : ∀ q, q ≠ am_ad G a → H1[q]? = H[q]?) : am_Rel G (am_pf L a j v) h H1 := by
  obtain ⟨⟨r1, r2, r3⟩, r4, r5, r6⟩ := id hR
  obtain ⟨k1, k2, k3, k4⟩ := r4 a hk
  refine ⟨⟨r1, r2, by rw [hz]; exact r3⟩, fun b hb => ?_, fun b i hb => ⟨(r5 b i hb).1, ?_⟩, fun b i => ?_⟩
  · obtain ⟨b1, b2, b3, b4⟩ := r4 b hb
    refine ⟨b1, b2, ?_, b4⟩
    by_cases e : b = a
    · subst e
      exact hok
    · exact b3.to rfl rfl (fun i => by rw [am_ct_pf hm, if_neg (fun q => e q.1)]) (ho _ (am_ad_ne hR ha hb e))
  · rw [nx_pf] at hb
    rw [fF_pf, if_neg (fun q => by omega)]
    exact (r5 b i hb).2
  · rw [am_ct_pf hm, kd_pf]
    by_cases e : b = a ∧ i = j
    · obtain ⟨rfl, rfl⟩ := e
      rw [if_pos ⟨rfl, rfl⟩]
      exact hr
    · rw [if_neg e]
      exact r6 b i
theorem am_rg0 (t : FieldType) : am_rg t 0 := by
  cases t <;> simp [am_rg]
theorem am_ad_nx {G : am_G} {L : am_L} {h : am_H} {H : Heap} (hR : am_Rel G L h H) : am_ad G (nx L) = H.size := by
  unfold am_ad
  rw [if_neg (by have := hR.1.1; omega), hR.1.2.2]
/-- a new cell -/
theorem am_Rel.al {G : am_G} {L : am_L} {h : am_H} {H H1 : Heap} (hR : am_Rel G L h H) {k : Nat} {n : Int} (hn : 0 ≤ n) (hok : am_ok G (am_al L k n) h (nx L) H1) (hz : H1.size = H.size + 1) (ho : ∀ q, q < H.size → H1[q]? = H[q]?) : am_Rel G (am_al L k n) h H1 := by
  obtain ⟨⟨r1, r2, r3⟩, r4, r5, r6⟩ := id hR
  have e0 : ∀ b : Int, b < nx L → kd (am_al L k n) b = kd L b := fun b hb => by rw [kd_al, if_neg (by omega)]
  have c0 : ∀ b i : Int, b ≠ nx L → am_ct (am_al L k n) h b i = am_ct L h b i := fun b i hb => by
    unfold am_ct
    rw [kd_al, if_neg hb, fF_al]
  refine ⟨⟨by rw [nx_al]; omega, by rw [us_al]; omega, by rw [hz, r3, nx_al]; omega⟩, fun b hb => ?_, fun b i hb => ?_, fun b i => ?_⟩
  · by_cases e : b = nx L
    · subst e
      exact ⟨by omega, by rw [nx_al]; omega, hok, fun q => by omega⟩
    · rw [kd_al, if_neg e] at hb
      obtain ⟨b1, b2, b3, b4⟩ := r4 b hb
      refine ⟨b1, by rw [nx_al]; omega, b3.to (by rw [kd_al, if_neg e]) (by rw [ln_al, if_neg e]) (fun i => c0 b i e) (ho _ (hR.adlt hb)), fun q => ?_⟩
      rw [kd_al, if_neg e]
      exact b4 q
  · rw [nx_al] at hb
    exact ⟨(r5 b i (by omega)).1, by rw [fF_al]; exact (r5 b i (by omega)).2⟩
  · by_cases e : b = nx L
    · subst e
      have h9 := r5 (nx L) i (Int.le_refl _)
      have : am_ct (am_al L k n) h (nx L) i = 0 := by
        unfold am_ct
        rw [fF_al, h9.1, h9.2]
        split <;> rfl
      rw [this]
      exact am_rg0 _
    · rw [c0 b i e, kd_al, if_neg e]
      exact r6 b i
theorem am_ct_new {G : am_G} {L : am_L} {h : am_H} {H : Heap} (hR : am_Rel G L h H) (k : Nat) (n i : Int) : am_ct (am_al L k n) h (nx L) i = 0 := by
  have h9 := hR.2.2.1 (nx L) i (Int.le_refl _)
  unfold am_ct
  rw [fF_al, h9.1, h9.2]
  split <;> rfl
theorem am_val0 (G : am_G) (t : FieldType) (h : t ≠ .float ∧ t ≠ .double) : am_val G (am_tg t) 0 = defaultValue t := by
  cases t <;> first | rfl | exact absurd rfl h.1 | exact absurd rfl h.2
theorem am_narrow {t : FieldType} {z : Int} (G : am_G) (h : am_rg t z) (hf : t ≠ .float ∧ t ≠ .double) : narrow t (am_val G (am_tg t) z) = am_val G (am_tg t) z ∧ fits t (am_val G (am_tg t) z) = true := by
  cases t with
  | float => exact absurd rfl hf.1
  | double => exact absurd rfl hf.2
  | int => exact ⟨rfl, rfl⟩
  | long => exact ⟨rfl, rfl⟩
  | object C =>
    by_cases e : z = 0
    · subst e
      exact ⟨rfl, rfl⟩
    · rw [show am_val G (am_tg (.object C)) z = .ref (am_ad G z) from by simp [am_val, am_tg, e]]
      exact ⟨rfl, rfl⟩
  | array C =>
    by_cases e : z = 0
    · subst e
      exact ⟨rfl, rfl⟩
    · rw [show am_val G (am_tg (.array C)) z = .ref (am_ad G z) from by simp [am_val, am_tg, e]]
      exact ⟨rfl, rfl⟩
  | byte =>
    simp only [am_rg] at h
    have e : (Int32.ofInt z).toInt8.toInt32 = Int32.ofInt z := by
      rw [Int32.toInt8_ofInt, Int8.toInt32_ofInt (by show (-128 : Int) ≤ z; omega) (by show z ≤ (127 : Int); omega)]
    have e2 : narrow .byte (.int (Int32.ofInt z)) = .int (Int32.ofInt z) := by
      show Value.int (Int32.ofInt z).toInt8.toInt32 = _
      rw [e]
    refine ⟨e2, ?_⟩
    show fits .byte (.int (Int32.ofInt z)) = true
    rw [← e]
    exact pk_fb _
  | short =>
    simp only [am_rg] at h
    have e : (Int32.ofInt z).toInt16.toInt32 = Int32.ofInt z := by
      rw [Int32.toInt16_ofInt, Int16.toInt32_ofInt (by show (-32768 : Int) ≤ z; omega) (by show z ≤ (32767 : Int); omega)]
    have e2 : narrow .short (.int (Int32.ofInt z)) = .int (Int32.ofInt z) := by
      show Value.int (Int32.ofInt z).toInt16.toInt32 = _
      rw [e]
    refine ⟨e2, ?_⟩
    show fits .short (.int (Int32.ofInt z)) = true
    rw [← e]
    exact pk_fs _
  | boolean =>
    simp only [am_rg] at h
    have : z = 0 ∨ z = 1 := by omega
    rcases this with rfl | rfl
    · exact ⟨rfl, rfl⟩
    · exact ⟨rfl, rfl⟩
  | char =>
    simp only [am_rg] at h
    have e : Int32.ofInt z = nI z.toNat := by
      show Int32.ofInt z = Int32.ofNat z.toNat
      rw [show z = ((z.toNat : Nat) : Int) by omega]
      rfl
    have := pk_charN (q := z.toNat) (by omega)
    show narrow .char (.int (Int32.ofInt z)) = .int (Int32.ofInt z) ∧ fits .char (.int (Int32.ofInt z)) = true
    rw [e]
    exact this
theorem am_Wf.lo {L : am_L} {h : am_H} (w : am_Wf L h) {a : Int} (hk : kd L a ≠ 99) : 0 < a ∧ a < nx L := ⟨(w.2.1 a hk).1, (w.2.1 a hk).2.1⟩
theorem am_Wf.st {L : am_L} {h : am_H} (w : am_Wf L h) {a j v : Int} (hk : kd L a ≠ 99) (hm : am_imm (kd L a) j = false) (hr : am_rg (am_ty (kd L a) j) v) : am_Wf L (am_st h a j v) := by
  obtain ⟨r1, r4, r5, r6⟩ := w
  refine ⟨r1, r4, fun b i hb => ⟨?_, (r5 b i hb).2⟩, fun b i => ?_⟩
  · rw [am_st_at, if_neg (fun q => by have := (r4 a hk).2.1; omega)]
    exact (r5 b i hb).1
  · rw [am_ct_st hm]
    by_cases e : b = a ∧ i = j
    · obtain ⟨rfl, rfl⟩ := e
      rw [if_pos ⟨rfl, rfl⟩]
      exact hr
    · rw [if_neg e]
      exact r6 b i
theorem am_Wf.pf {L : am_L} {h : am_H} (w : am_Wf L h) {a j v : Int} (hk : kd L a ≠ 99) (hm : am_imm (kd L a) j = true) (hr : am_rg (am_ty (kd L a) j) v) : am_Wf (am_pf L a j v) h := by
  obtain ⟨r1, r4, r5, r6⟩ := w
  refine ⟨r1, r4, fun b i hb => ⟨(r5 b i hb).1, ?_⟩, fun b i => ?_⟩
  · rw [nx_pf] at hb
    rw [fF_pf, if_neg (fun q => by have := (r4 a hk).2.1; omega)]
    exact (r5 b i hb).2
  · rw [am_ct_pf hm, kd_pf]
    by_cases e : b = a ∧ i = j
    · obtain ⟨rfl, rfl⟩ := e
      rw [if_pos ⟨rfl, rfl⟩]
      exact hr
    · rw [if_neg e]
      exact r6 b i
theorem am_Wf.al {L : am_L} {h : am_H} (w : am_Wf L h) {k : Nat} {n : Int} (hn : 0 ≤ n) : am_Wf (am_al L k n) h := by
  obtain ⟨r1, r4, r5, r6⟩ := w
  refine ⟨⟨by rw [nx_al]; omega, by rw [us_al]; omega⟩, fun b hb => ?_, fun b i hb => ?_, fun b i => ?_⟩
  · by_cases e : b = nx L
    · subst e
      exact ⟨by omega, by rw [nx_al]; omega, fun q => by omega⟩
    · rw [kd_al, if_neg e] at hb
      obtain ⟨b1, b2, b3⟩ := r4 b hb
      refine ⟨b1, by rw [nx_al]; omega, fun q => ?_⟩
      rw [kd_al, if_neg e]
      exact b3 q
  · rw [nx_al] at hb
    exact ⟨(r5 b i (by omega)).1, by rw [fF_al]; exact (r5 b i (by omega)).2⟩
  · by_cases e : b = nx L
    · subst e
      have h9 := r5 (nx L) i (Int.le_refl _)
      have : am_ct (am_al L k n) h (nx L) i = 0 := by
        unfold am_ct
        rw [fF_al, h9.1, h9.2]
        split <;> rfl
      rw [this]
      exact am_rg0 _
    · have : am_ct (am_al L k n) h b i = am_ct L h b i := by
        unfold am_ct
        rw [kd_al, if_neg e, fF_al]
      rw [this, kd_al, if_neg e]
      exact r6 b i
