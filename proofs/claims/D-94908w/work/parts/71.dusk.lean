/-! DUSK: plain laws; ThreadTown's side -/
set_option maxRecDepth 100000
theorem tb_full : (List.range 8).all (fun n => (List.range 7).all (fun m => decide (bt (bShl 1 (n : Nat) - 1) (m : Nat) = if m < n then 1 else 0))) = true := by decide +kernel
theorem tb_full2 : (List.range 8).all (fun n => decide ((0 ≤ bShl 1 (n : Nat) - 1 ∧ bShl 1 (n : Nat) - 1 < 128) ∧ bits (bShl 1 (n : Nat) - 1) = (n : Nat))) = true := by decide +kernel
theorem full_bt {n m : Int} (hn : 0 ≤ n ∧ n ≤ 7) (hm : 0 ≤ m ∧ m < 7) : bt (bShl 1 n - 1) m = if m < n then 1 else 0 := by
  obtain ⟨n, rfl, hn'⟩ := nat_lt (n := 8) (a := n) ⟨hn.1, by omega⟩
  obtain ⟨m, rfl, hm'⟩ := nat_lt (n := 7) hm
  have := tb2 tb_full hn' hm'
  rw [this]
  by_cases e : m < n
  · rw [if_pos e, if_pos (by omega)]
  · rw [if_neg e, if_neg (by omega)]
theorem full_ok {n : Int} (hn : 0 ≤ n ∧ n ≤ 7) : (0 ≤ bShl 1 n - 1 ∧ bShl 1 n - 1 < 128) ∧ bits (bShl 1 n - 1) = n := by
  obtain ⟨n, rfl, hn'⟩ := nat_lt (n := 8) (a := n) ⟨hn.1, by omega⟩
  exact tb1 tb_full2 hn'
theorem bits_0 {a : Int} (ha : 0 ≤ a ∧ a < 128) (h : bits a ≤ 0) : a = 0 := by
  by_cases e : a = 0
  · exact e
  · obtain ⟨m, hm, h1, -⟩ := least_bt ha e
    have := clr_bits ha hm h1
    have := bits_bd (dif a (bShl 1 m))
    omega
/-- who of the first n of a set has the greatest key -/
def nxI (key : Int → Int) (a : Int) : Nat → Int
  | 0 => -1
  | n + 1 => if bt a n = 1 ∧ (nxI key a n < 0 ∨ key (nxI key a n) < key n) then n else nxI key a n
theorem nxI_s {key : Int → Int} {a i : Int} (h : 0 ≤ i) : nxI key a (i + 1).toNat = if bt a i = 1 ∧ (nxI key a i.toNat < 0 ∨ key (nxI key a i.toNat) < key i) then i else nxI key a i.toNat := by
  rw [show (i + 1).toNat = i.toNat + 1 by omega]
  show (if bt a (i.toNat : Nat) = 1 ∧ (_ ∨ _ < key (i.toNat : Nat)) then ((i.toNat : Nat) : Int) else _) = _
  rw [show ((i.toNat : Nat) : Int) = i by omega]
theorem nx_ok (key : Int → Int) (a : Int) : ∀ n : Nat, (nxI key a n = -1 ∧ ∀ m, 0 ≤ m → m < (n : Int) → bt a m = 0) ∨ ((0 ≤ nxI key a n ∧ nxI key a n < n) ∧ bt a (nxI key a n) = 1)
  | 0 => Or.inl ⟨rfl, fun m z0 z1 => by omega⟩
  | n + 1 => by
    have h0 := nx_ok key a n
    have b1 := bt_01 a n
    unfold nxI
    split
    · rename_i e
      exact Or.inr ⟨by omega, e.1⟩
    · rename_i e
      rcases h0 with ⟨h1, h2⟩ | ⟨h1, h2⟩
      · refine Or.inl ⟨h1, fun m z0 z1 => ?_⟩
        by_cases e2 : m = n
        · rw [e2]
          omega
        · exact h2 m z0 (by omega)
      · exact Or.inr ⟨by omega, h2⟩
theorem nx_cg {key : Int → Int} {a c : Int} (n : Nat) (h : ∀ m, 0 ≤ m → m < (n : Int) → (bt a m = 1 ↔ bt c m = 1)) : nxI key a n = nxI key c n := by
  induction n with
  | zero => rfl
  | succ n ih =>
    have h1 := h n (by omega) (by omega)
    unfold nxI
    rw [ih (fun m z0 z1 => h m z0 (by omega))]
    by_cases e : bt a n = 1
    · have := h1.mp e
      simp only [e, this]
    · have : ¬ bt c n = 1 := fun z => e (h1.mpr z)
      simp only [e, this]
theorem sumI_up {n m v : Int} {f : Int → Int} (hm : 0 ≤ m ∧ m < n) : sumI n (up1 f m v) = sumI n f - f m + v := by
  suffices H : ∀ k : Nat, (k : Int) ≤ n → sumN k (up1 f m v) = sumN k f + (if m < k then v - f m else 0) by
    have := H n.toNat (by omega)
    unfold sumI
    rw [this, if_pos (by omega)]
    omega
  intro k
  induction k with
  | zero => intro _; show (0 : Int) = 0 + _; rw [if_neg (by omega)]; omega
  | succ k ih =>
    intro hk
    show sumN k (up1 f m v) + up1 f m v k = sumN k f + f k + _
    rw [ih (by omega)]
    unfold up1
    by_cases e : (k : Int) = m
    · rw [if_pos e, if_neg (by omega), if_pos (by omega), e]
      omega
    · rw [if_neg e]
      by_cases e2 : m < (k : Int)
      · rw [if_pos e2, if_pos (by omega)]
        omega
      · rw [if_neg e2, if_neg (by omega)]
        omega
section DUSKP
variable {T : Txt} {S : Row} {b q : Int}
/-- what a rule tells of a man -/
def keyR (T : Txt) (S : Row) (ru y m : Int) : Int := if ru = 0 then 0 else if ru = 1 then rN S m else if ru = 2 then lng T m - rN S m else if ru = 3 then (if rN S m = 0 then -1 else rT S m (rN S m - 1)) else lotR (tSeed T) (2000 + 8 * (rM S + y) + m) 1000
theorem keyR_rg (hI : RowI T S b q) (hT : TxtI T) (hq : q ≤ 100000) {ru y m : Int} (hm : 0 ≤ m ∧ m < tM T) : rg32 (keyR T S ru y m) := by
  have h7 := hT.1
  have h1 := hI.n60 hT m hm.1 (by omega)
  have h2 := lng_bd hT m
  have h3 := lotR_rg (tSeed T) (2000 + 8 * (rM S + y) + m) 1000
  have h4 := hI.2.2.2.2.2.2.2
  unfold keyR
  split
  · exact ⟨by decide, by decide⟩
  · split
    · exact ⟨by omega, by omega⟩
    · split
      · exact ⟨by omega, by omega⟩
      · split
        · split
          · exact ⟨by decide, by decide⟩
          · have := (hI.2.2.1 m (rN S m - 1) hm.1 hm.2 (by omega) (by omega)).2.1
            exact ⟨by omega, by omega⟩
        · exact h3
/-- those of a set wind, he first of whom is told most -/
noncomputable def wnA (T : Txt) (key : Int → Int) : Nat → Int → Row → Int → Row × Int
  | 0, _, S, n => (S, n)
  | r + 1, a, S, n => by
    classical exact if a = 0 then (S, n) else if canWind T S (nxI key a (tM T).toNat) then wnA T key r (dif a (bShl 1 (nxI key a (tM T).toNat))) (windR S (nxI key a (tM T).toNat)) (n + 1) else wnA T key r (dif a (bShl 1 (nxI key a (tM T).toNat))) S n
theorem nx_in (hT : TxtI T) (key : Int → Int) {a : Int} (ha : 0 ≤ a ∧ a < 128) (h0 : a ≠ 0) (hz : ∀ m, tM T ≤ m → m < 7 → bt a m = 0) : (0 ≤ nxI key a (tM T).toNat ∧ nxI key a (tM T).toNat < tM T) ∧ bt a (nxI key a (tM T).toNat) = 1 := by
  have hM := hT.1
  rcases nx_ok key a (tM T).toNat with ⟨h1, h2⟩ | ⟨h1, h2⟩
  · obtain ⟨m, hm, m1, -⟩ := least_bt ha h0
    by_cases e : m < tM T
    · have := h2 m hm.1 (by omega)
      omega
    · have := hz m (by omega) hm.2
      omega
  · exact ⟨by omega, h2⟩
theorem clr_hi {M a m : Int} (ha : 0 ≤ a ∧ a < 128) (hm : 0 ≤ m ∧ m < 7) (h0 : 0 ≤ M) (hz : ∀ m, M ≤ m → m < 7 → bt a m = 0) : ∀ j, M ≤ j → j < 7 → bt (dif a (bShl 1 m)) j = 0 := fun j z0 z1 => by
  rw [(dif_bt ha (shl_bt hm (o := 0) ⟨by decide, by decide⟩).2 (m := j) ⟨by omega, z1⟩).1, if_neg (fun z => by have := hz j z0 z1; omega)]
theorem wn_ok (hT : TxtI T) (key : Int → Int) : ∀ (r : Nat) (a : Int) (S : Row) (n : Int), RowI T S b q → (0 ≤ a ∧ a < 128) → (∀ m, tM T ≤ m → m < 7 → bt a m = 0) →
    RowI T (wnA T key r a S n).1 b q ∧ rM (wnA T key r a S n).1 = rM S ∧ n ≤ (wnA T key r a S n).2 ∧ sumI (tM T) (rN (wnA T key r a S n).1) + (wnA T key r a S n).2 = sumI (tM T) (rN S) + n
  | 0, a, S, n, hI, _, _ => ⟨hI, rfl, Int.le_refl _, rfl⟩
  | r + 1, a, S, n, hI, ha, hz => by
    have hM := hT.1
    unfold wnA
    by_cases e : a = 0
    · rw [if_pos e]
      exact ⟨hI, rfl, Int.le_refl _, rfl⟩
    · rw [if_neg e]
      obtain ⟨n1, n2⟩ := nx_in hT key ha e hz
      generalize nxI key a (tM T).toNat = m at n1 n2 ⊢
      have c1 := clr_rg ha (m := m) ⟨n1.1, by omega⟩
      have c2 := clr_hi ha (m := m) ⟨n1.1, by omega⟩ hM.1 hz
      split
      · rename_i hcan
        obtain ⟨i1, i2, i3, i4⟩ := wn_ok hT key r _ (windR S m) (n + 1) (hI.wind hT n1 hcan) c1 c2
        have es : sumI (tM T) (rN (windR S m)) = sumI (tM T) (rN S) - 1 := by
          show sumI (tM T) (up1 (rN S) m (rN S m - 1)) = _
          rw [sumI_up n1]
          omega
        exact ⟨i1, i2, by omega, by omega⟩
      · exact wn_ok hT key r _ S n hI c1 c2
/-- a minute of a dusk -/
noncomputable def dmR (T : Txt) (S : Row) (ru y : Int) : Row × Int := wnA T (keyR T S ru y) 7 (bShl 1 (tM T) - 1) S 0
theorem full_hi (hT : TxtI T) : ∀ m, tM T ≤ m → m < 7 → bt (bShl 1 (tM T) - 1) m = 0 := fun m z0 z1 => by
  have hM := hT.1
  rw [full_bt hM ⟨by omega, z1⟩, if_neg (by omega)]
theorem dm_ok (hT : TxtI T) (hI : RowI T S b q) (ru y : Int) : RowI T (dmR T S ru y).1 b q ∧ rM (dmR T S ru y).1 = rM S ∧ 0 ≤ (dmR T S ru y).2 ∧ sumI (tM T) (rN (dmR T S ru y).1) + (dmR T S ru y).2 = sumI (tM T) (rN S) := by
  obtain ⟨h1, h2, h3, h4⟩ := wn_ok hT (keyR T S ru y) 7 (bShl 1 (tM T) - 1) S 0 hI (full_ok hT.1).1 (full_hi hT)
  exact ⟨h1, h2, h3, by unfold dmR; omega⟩
/-- a whole dusk from minute y on, p pieces being wound -/
noncomputable def dkF (T : Txt) (ru : Int) : Nat → Row → Int → Int → Row × Int × Int
  | 0, S, y, p => (S, y, p)
  | r + 1, S, y, p => if 0 < (dmR T S ru y).2 then dkF T ru r (dmR T S ru y).1 (y + 1) (p + (dmR T S ru y).2) else ((dmR T S ru y).1, y, p)
noncomputable def dkR (T : Txt) (S : Row) (ru : Int) : Row × Int × Int := dkF T ru 421 S 0 0
theorem pcs0_bd (hT : TxtI T) (hI : RowI T S b q) : 0 ≤ sumI (tM T) (rN S) ∧ sumI (tM T) (rN S) ≤ 420 := by
  have hM := hT.1
  have := sumI_bd (n := tM T) (b := 60) (f := rN S) hM.1 (fun k z0 z1 => hI.n60 hT k z0 (by omega))
  omega
theorem dk_ok (hT : TxtI T) (ru : Int) : ∀ (r : Nat) (S : Row) (y p : Int), RowI T S b q → RowI T (dkF T ru r S y p).1 b q ∧ (y ≤ (dkF T ru r S y p).2.1 ∧ (dkF T ru r S y p).2.1 ≤ y + r) ∧ p ≤ (dkF T ru r S y p).2.2 ∧ (dkF T ru r S y p).2.2 ≤ p + sumI (tM T) (rN S)
  | 0, S, y, p, hI => ⟨hI, ⟨Int.le_refl _, by show y ≤ y + ((0 : Nat) : Int); omega⟩, Int.le_refl _, by have := pcs0_bd hT hI; show p ≤ _; omega⟩
  | r + 1, S, y, p, hI => by
    obtain ⟨d1, d2, d3, d4⟩ := dm_ok hT hI ru y
    have b1 := pcs0_bd hT d1
    unfold dkF
    split
    · obtain ⟨i1, i2, i3, i4⟩ := dk_ok hT ru r _ (y + 1) (p + (dmR T S ru y).2) d1
      exact ⟨i1, by omega, by omega, by omega⟩
    · exact ⟨d1, ⟨Int.le_refl _, by show y ≤ y + ((r + 1 : Nat) : Int); omega⟩, Int.le_refl _, by show p ≤ _; omega⟩
def homP (R : Row) : Int → Bool := fun m => decide (rN R m = 0 ∧ bt (rL R) m = 0)
noncomputable def duskV (T : Txt) (S : Row) (ru w : Int) : Int := if (0 ≤ ru ∧ ru ≤ 4) ∧ (0 ≤ w ∧ w ≤ 3) then (if w = 0 then (dkR T S ru).2.1 else if w = 1 then (dkR T S ru).2.2 else if w = 2 then bset (homP (dkR T S ru).1) (tM T).toNat else bset (outP (dkR T S ru).1) (tM T).toNat) else -1
/-- the best of the first n rules, its pieces, its minutes -/
noncomputable def bdI (T : Txt) (S : Row) : Nat → Int × Int × Int
  | 0 => (0, -1, 0)
  | n + 1 => if (dkR T S n).2.2 < (bdI T S n).2.1 ∨ ((dkR T S n).2.2 = (bdI T S n).2.1 ∧ (bdI T S n).2.2 ≤ (dkR T S n).2.1) then bdI T S n else ((n : Int), (dkR T S n).2.2, (dkR T S n).2.1)
noncomputable def bestV (T : Txt) (S : Row) : Int := (bdI T S 5).1
theorem bdI_s {i : Int} (h : 0 ≤ i) : bdI T S (i + 1).toNat = if (dkR T S i).2.2 < (bdI T S i.toNat).2.1 ∨ ((dkR T S i).2.2 = (bdI T S i.toNat).2.1 ∧ (bdI T S i.toNat).2.2 ≤ (dkR T S i).2.1) then bdI T S i.toNat else (i, (dkR T S i).2.2, (dkR T S i).2.1) := by
  rw [show (i + 1).toNat = i.toNat + 1 by omega]
  show (if (dkR T S (i.toNat : Nat)).2.2 < _ ∨ ((dkR T S (i.toNat : Nat)).2.2 = _ ∧ _ ≤ (dkR T S (i.toNat : Nat)).2.1) then _ else (((i.toNat : Nat) : Int), (dkR T S (i.toNat : Nat)).2.2, (dkR T S (i.toNat : Nat)).2.1)) = _
  rw [show ((i.toNat : Nat) : Int) = i by omega]
theorem dkR_bd (hT : TxtI T) (hI : RowI T S b q) (ru : Int) : RowI T (dkR T S ru).1 b q ∧ (0 ≤ (dkR T S ru).2.1 ∧ (dkR T S ru).2.1 ≤ 421) ∧ 0 ≤ (dkR T S ru).2.2 ∧ (dkR T S ru).2.2 ≤ 420 := by
  obtain ⟨h1, h2, h3, h4⟩ := dk_ok hT ru 421 S 0 0 hI
  have := pcs0_bd hT hI
  exact ⟨h1, ⟨h2.1, by have := h2.2; unfold dkR; omega⟩, h3, by unfold dkR; omega⟩
theorem bdI_bd (hT : TxtI T) (hI : RowI T S b q) : ∀ n : Nat, (-1 ≤ (bdI T S n).2.1 ∧ (bdI T S n).2.1 ≤ 420) ∧ (0 ≤ (bdI T S n).2.2 ∧ (bdI T S n).2.2 ≤ 421)
  | 0 => ⟨⟨by show (-1 : Int) ≤ -1; omega, by show (-1 : Int) ≤ 420; omega⟩, ⟨by show (0 : Int) ≤ 0; omega, by show (0 : Int) ≤ 421; omega⟩⟩
  | n + 1 => by
    have h0 := bdI_bd hT hI n
    obtain ⟨-, h1, h2, h3⟩ := dkR_bd hT hI n
    unfold bdI
    split
    · exact h0
    · exact ⟨⟨by show -1 ≤ (dkR T S n).2.2; omega, h3⟩, h1⟩
end DUSKP
section DUSKC
variable {G : am_G} {M : am_M} {d pc : Nat} {ls rest : List AV} {L : am_L} {h h' : am_H} {Q : am_O → am_L → am_H → Prop} {x o s t c : Int} {T : Txt} {S : Row} {b q : Int}
theorem C_X8_tells {a m y : Int} (k : Q (.inl [aI (keyR T S 0 y m)]) L h) : am_C G mX8_tells (d + 3) [aR a, aR c, aR t, aI m, aI y] L h Q := by
  refine x_start okX8_tells rfl rfl rfl rfl ?_
  refine x_iconst dX8_tells_0 ?_
  refine x_iret dX8_tells_1 rfl ?_
  exact k
theorem C_X9_tells {a m y : Int} (hr : RC L h c T S) (hm : 0 ≤ m ∧ m < 7) (k : Q (.inl [aI (keyR T S 1 y m)]) L h) : am_C G mX9_tells (d + 3) [aR a, aR c, aR t, aI m, aI y] L h Q := by
  have hcl := hr.1
  have en := hr.2.1 m hm.1 hm.2
  refine x_start okX9_tells rfl rfl rfl rfl ?_
  refine x_aload_1 dX9_tells_0 ?_
  refine x_getR dX9_tells_1 fl436_5 rfl (by first | (exact ClL.k0 (by assumption)) | (assumption)) (by first | (exact ClL.f2 (by assumption)) | (assumption)) ?_
  refine x_iload_3 dX9_tells_4 ?_
  refine x_iald_ dX9_tells_5 (by first | (exact ClL.k3 (by assumption)) | (assumption)) (by first | (exact ClL.r3 (by assumption) (by omega) (by omega)) | (omega)) (fun r5 => ?_)
  rw [en] at r5 ⊢
  refine x_iret dX9_tells_6 rfl ?_
  exact k
theorem C_X10_tells {a m y : Int} (hr : RC L h c T S) (hT : TxtI T) (hm : 0 ≤ m ∧ m < tM T) (k : Q (.inl [aI (keyR T S 2 y m)]) L h) : am_C G mX10_tells (d + 3) [aR a, aR c, aR t, aI m, aI y] L h Q := by
  have hcl := hr.1
  have h7 := hT.1
  have en := hr.2.1 m hm.1 (by omega)
  have el := (hr.2.2.1 m hm.1 hm.2).2.2
  refine x_start okX10_tells rfl rfl rfl rfl ?_
  refine x_aload_1 dX10_tells_0 ?_
  refine x_getR dX10_tells_1 fl440_5 rfl (by first | (exact ClL.k0 (by assumption)) | (assumption)) (by first | (exact ClL.f3 (by assumption)) | (assumption)) ?_
  refine x_iload_3 dX10_tells_4 ?_
  refine x_iald_ dX10_tells_5 (by first | (exact ClL.k4 (by assumption)) | (assumption)) (by first | (exact ClL.r4 (by assumption) (by omega) (by omega)) | (omega)) (fun r5 => ?_)
  rw [el] at r5 ⊢
  refine x_aload_1 dX10_tells_6 ?_
  refine x_getR dX10_tells_7 fl437_5 rfl (by first | (exact ClL.k0 (by assumption)) | (assumption)) (by first | (exact ClL.f2 (by assumption)) | (assumption)) ?_
  refine x_iload_3 dX10_tells_10 ?_
  refine x_iald_ dX10_tells_11 (by first | (exact ClL.k3 (by assumption)) | (assumption)) (by first | (exact ClL.r3 (by assumption) (by omega) (by omega)) | (omega)) (fun r11 => ?_)
  rw [en] at r11 ⊢
  refine x_isub dX10_tells_12 ?_
  refine x_iret dX10_tells_13 rfl ?_
  exact k
theorem C_X11_tells {a m y : Int} (hr : RC L h c T S) (hI : RowI T S b q) (hT : TxtI T) (hm : 0 ≤ m ∧ m < 7) (k : Q (.inl [aI (keyR T S 3 y m)]) L h) : am_C G mX11_tells (d + 3) [aR a, aR c, aR t, aI m, aI y] L h Q := by
  have hcl := hr.1
  refine x_start okX11_tells rfl rfl rfl rfl ?_
  refine x_aload_1 dX11_tells_0 ?_
  refine x_iload_3 dX11_tells_1 ?_
  refine x_callV1 dX11_tells_2 rfl okX5_lastLaid q1419 q1420 q1421 (by first | assumption | (exact ClL.k0 (by assumption))) am_k5 rfl (C_X5_lastLaid hr hI hT hm (x_k1 ?_))
  refine x_iret dX11_tells_5 rfl ?_
  exact k
theorem C_X12_tells {a m y : Int} (hr : RC L h c T S) (ht : TxL L t T) (k : Q (.inl [aI (keyR T S 4 y m)]) L h) : am_C G mX12_tells (d + 3) [aR a, aR c, aR t, aI m, aI y] L h Q := by
  have hcl := hr.1
  have em := hr.2.2.2.2.2.1
  refine x_start okX12_tells rfl rfl rfl rfl ?_
  refine x_aload_2 dX12_tells_0 ?_
  refine x_getKI dX12_tells_1 fl376_4 (by first | (exact TxL.k0 (by assumption)) | (assumption)) (by first | (exact TxL.vS (by assumption)) | (assumption)) (fun r1 => ?_)
  refine x_sipush dX12_tells_4 rfl ?_
  refine x_bipush dX12_tells_7 rfl ?_
  refine x_aload_1 dX12_tells_9 ?_
  refine x_getI_ dX12_tells_10 fl450_5 (by first | (exact ClL.k0 (by assumption)) | (assumption)) (fun r10 => ?_)
  rw [em] at r10 ⊢
  refine x_iload4 dX12_tells_13 ?_
  refine x_iadd dX12_tells_15 ?_
  refine x_imul dX12_tells_16 ?_
  refine x_iadd dX12_tells_17 ?_
  refine x_iload_3 dX12_tells_18 ?_
  refine x_iadd dX12_tells_19 ?_
  refine x_sipush dX12_tells_20 rfl ?_
  refine x_callSN3 dX12_tells_23 rfl okX0_lot q1429 q1219 rfl (C_X0_lot ⟨by decide, by decide⟩ (by decide) (x_k1 ?_))
  refine x_iret dX12_tells_26 rfl ?_
  exact k
/-- through Dusk.tells -/
theorem x_tells {i : Nat} {ru m y : Int} (hd : decode M.2.1 pc = .ok (.invokevirtual i, 3)) (hM : M.2.2.2.2 = []) (hl : Cond.methodLink M.1.cls i ⟨"ThreadTown$Dusk", "tells", "(LThreadTown$Cloth;LThreadTown$Text;II)I"⟩ ∈ lw_all) (hK : MkL L x) (hru : 0 ≤ ru ∧ ru < 5) (hr : RC L h c T S) (hI : RowI T S b q) (hT : TxtI T) (ht : TxL L t T) (hm : 0 ≤ m ∧ m < tM T) (hrest : am_Sm rest = true)
    (kk : am_X G M (d + 3 + 1) (pc + 3) ls (aI (keyR T S ru y m) :: rest) L h Q) : am_X G M (d + 3 + 1) pc ls (aI y :: aI m :: aR t :: aR c :: aR (x + 175 + ru) :: rest) L h Q := by
  have h7 := hT.1
  have ho : ("ThreadTown$Dusk" : String) ≠ "java/lang/invoke/MethodHandle" ∧ ("ThreadTown$Dusk" : String) ≠ "java/lang/invoke/VarHandle" ∧ (parseMethodDescriptor "(LThreadTown$Cloth;LThreadTown$Text;II)I").map (fun d => d.parameters.length) = some 4 := ⟨by decide, by decide, by decide +kernel⟩
  have hc : ru = 0 ∨ ru = 1 ∨ ru = 2 ∨ ru = 3 ∨ ru = 4 := by omega
  rcases hc with rfl | rfl | rfl | rfl | rfl
  · exact x_callA4 hd hM okX8_tells hl q1415 q1414 ho q1434 q1433 (show kd L (x + 175 + 0) = 8 by rw [Int.add_zero]; exact hK.dusk0) am_k8 hrest (C_X8_tells (T := T) (S := S) (x_k1 kk))
  · exact x_callA4 hd hM okX9_tells hl q1415 q1414 ho q1431 q1430 (show kd L (x + 175 + 1) = 9 by rw [Int.add_assoc]; exact hK.dusk1) am_k9 hrest (C_X9_tells hr ⟨hm.1, by omega⟩ (x_k1 kk))
  · exact x_callA4 hd hM okX10_tells hl q1415 q1414 ho q1424 q1423 (show kd L (x + 175 + 2) = 10 by rw [Int.add_assoc]; exact hK.dusk2) am_k10 hrest (C_X10_tells hr hT hm (x_k1 kk))
  · exact x_callA4 hd hM okX11_tells hl q1415 q1414 ho q1417 q1416 (show kd L (x + 175 + 3) = 11 by rw [Int.add_assoc]; exact hK.dusk3) am_k11 hrest (C_X11_tells hr hI hT ⟨hm.1, by omega⟩ (x_k1 kk))
  · exact x_callA4 hd hM okX12_tells hl q1415 q1414 ho q1427 q1426 (show kd L (x + 175 + 4) = 12 by rw [Int.add_assoc]; exact hK.dusk4) am_k12 hrest (C_X12_tells hr ht (x_k1 kk))
theorem C_X0_nextOf {a : Int} {key : Int → Int} (hC : CoT L h x t T S) (hT : TxtI T) (hk : ∀ m, 0 ≤ m → m < tM T → h (x + 248) m = key m) (k : Q (.inl [aI (nxI key a (tM T).toNat)]) L h) : am_C G mX0_nextOf (d + 3) [aR x, aI a] L h Q := by
  have hK := hC.mk
  have hM := hT.1
  refine x_start okX0_nextOf rfl rfl rfl rfl ?_
  refine x_iconst dX0_nextOf_0 ?_
  refine x_istore_2 dX0_nextOf_1 rfl ?_
  refine x_iconst dX0_nextOf_2 ?_
  refine x_istore_3 dX0_nextOf_3 rfl ?_
  skip
  refine x_up0 (tM T) (fun i => 0 ≤ i → i ≤ tM T → am_X G mX0_nextOf (d + 3) 4 [aR x, aI a, aI (nxI key a i.toNat), aI i] [] L h Q) (fun i ih g0 g1 => ?_) 0 (by omega) hM.1
  have hbt : bt a i = bAnd (bShr a i) 1 := rfl
  have bt1 := bt_01 a i
  have nb := nx_ok key a i.toNat
  have nxt : ∀ v, i < tM T → v = nxI key a (i + 1).toNat → am_X G mX0_nextOf (d + 3) 4 [aR x, aI a, aI v, aI (i + 1)] [] L h Q := fun v z e => by rw [e]; exact ih z (by omega) (by omega)
  refine x_iload_3 dX0_nextOf_4 ?_
  refine x_aload_0 dX0_nextOf_5 ?_
  refine x_callV0 dX0_nextOf_6 rfl okX0_men q1196 q1198 qs33 (by first | assumption | (exact MkL.k0 (by assumption))) am_k0 rfl (C_X0_men hC (x_k1 ?_))
  refine x_icmp_ge (tgt := 48) dX0_nextOf_9 rfl (by omega) (by omega) (fun c9 => ?_) (fun c9 => ?_)
  · refine x_iload_2 dX0_nextOf_48 ?_
    refine x_iret dX0_nextOf_49 rfl ?_
    rw [show i = tM T by omega]
    exact k
  · refine x_iload_1 dX0_nextOf_12 ?_
    refine x_iload_3 dX0_nextOf_13 ?_
    refine x_ishr dX0_nextOf_14 ?_
    refine x_iconst dX0_nextOf_15 ?_
    refine x_iand dX0_nextOf_16 ?_
    refine x_iconst dX0_nextOf_17 ?_
    refine x_icmp_ne (tgt := 42) dX0_nextOf_18 rfl (by omega) (by omega) (fun c18 => ?_) (fun c18 => ?_)
    · refine x_iinc3 dX0_nextOf_42 rfl ?_
      refine x_goto (tgt := 4) dX0_nextOf_45 rfl ?_
      refine nxt _ (by omega) ?_
      rw [nxI_s g0]
      first
      | (rw [if_pos ⟨by omega, by omega⟩]; done)
      | (rw [if_neg (by omega)]; done)
    · refine x_iload_2 dX0_nextOf_21 ?_
      refine x_if_lt (tgt := 40) dX0_nextOf_22 rfl (by omega) (fun c22 => ?_) (fun c22 => ?_)
      · refine x_iload_3 dX0_nextOf_40 ?_
        refine x_istore_2 dX0_nextOf_41 rfl ?_
        refine x_iinc3 dX0_nextOf_42 rfl ?_
        refine x_goto (tgt := 4) dX0_nextOf_45 rfl ?_
        refine nxt _ (by omega) ?_
        rw [nxI_s g0]
        first
        | (rw [if_pos ⟨by omega, by omega⟩]; done)
        | (rw [if_neg (by omega)]; done)
      · have k1 := hk i g0 (by omega)
        have k2 := hk (nxI key a i.toNat) (by omega) (by omega)
        refine x_aload_0 dX0_nextOf_25 ?_
        refine x_getR dX0_nextOf_26 fl587_0 rfl (by first | (exact MkL.k0 (by assumption)) | (assumption)) (by first | (exact MkL.v_told (by assumption)) | (assumption)) ?_
        refine x_iload_3 dX0_nextOf_29 ?_
        refine x_iald_ dX0_nextOf_30 (by first | (exact MkL.k_told (by assumption)) | (assumption)) (by first | (exact MkL.x_told (by assumption) (by omega) (by omega)) | (omega)) (fun r30 => ?_)
        simp (disch := omega) only [k1, k2] at r30 ⊢
        refine x_aload_0 dX0_nextOf_31 ?_
        refine x_getR dX0_nextOf_32 fl587_0 rfl (by first | (exact MkL.k0 (by assumption)) | (assumption)) (by first | (exact MkL.v_told (by assumption)) | (assumption)) ?_
        refine x_iload_2 dX0_nextOf_35 ?_
        refine x_iald_ dX0_nextOf_36 (by first | (exact MkL.k_told (by assumption)) | (assumption)) (by first | (exact MkL.x_told (by assumption) (by omega) (by omega)) | (omega)) (fun r36 => ?_)
        simp (disch := omega) only [k1, k2] at r36 ⊢
        refine x_icmp_le (tgt := 42) dX0_nextOf_37 rfl (by omega) (by omega) (fun c37 => ?_) (fun c37 => ?_)
        · refine x_iinc3 dX0_nextOf_42 rfl ?_
          refine x_goto (tgt := 4) dX0_nextOf_45 rfl ?_
          refine nxt _ (by omega) ?_
          rw [nxI_s g0]
          first
          | (rw [if_pos ⟨by omega, by omega⟩]; done)
          | (rw [if_neg (by omega)]; done)
        · refine x_iload_3 dX0_nextOf_40 ?_
          refine x_istore_2 dX0_nextOf_41 rfl ?_
          refine x_iinc3 dX0_nextOf_42 rfl ?_
          refine x_goto (tgt := 4) dX0_nextOf_45 rfl ?_
          refine nxt _ (by omega) ?_
          rw [nxI_s g0]
          first
          | (rw [if_pos ⟨by omega, by omega⟩]; done)
          | (rw [if_neg (by omega)]; done)
set_option maxHeartbeats 4000000 in
theorem C_X0_windsAll {S0 : Row} {ru y : Int} (hC : CoT L h x t T S0) (hr : RC L h (x + 48) T S) (hT : TxtI T) (hI : RowI T S b q) (hq : q ≤ 100000) (hru : 0 ≤ ru ∧ ru < 5) (k : ∀ h', RC L h' (x + 48) T (dmR T S ru y).1 → FrS h h' x → h' x = h x → Q (.inl [aI (dmR T S ru y).2]) L h') : am_C G mX0_windsAll (d + 10) [aR x, aI ru, aI y] L h Q := by
  have hK := hC.mk
  have htx := hC.tx
  have hM := hT.1
  have fo := full_ok hM
  refine x_start okX0_windsAll rfl rfl rfl rfl ?_
  refine x_iconst dX0_windsAll_0 ?_
  refine x_aload_0 dX0_windsAll_1 ?_
  refine x_callV0 dX0_windsAll_2 rfl okX0_men q1196 q1198 qs33 (by first | assumption | (exact MkL.k0 (by assumption))) am_k0 rfl (C_X0_men hC (x_k1 ?_))
  refine x_ishl dX0_windsAll_5 ?_
  refine x_iconst dX0_windsAll_6 ?_
  refine x_isub dX0_windsAll_7 ?_
  refine x_istore_3 dX0_windsAll_8 rfl ?_
  refine x_iconst dX0_windsAll_9 ?_
  refine x_istore4 dX0_windsAll_10 rfl ?_
  refine x_iconst dX0_windsAll_12 ?_
  refine x_istore5 dX0_windsAll_13 rfl ?_
  skip
  refine x_for (tM T) (fun i hh => FrS h hh x ∧ hh x = h x ∧ RC L hh (x + 48) T S ∧ ∀ m, 0 ≤ m → m < i → hh (x + 248) m = keyR T S ru y m) (fun i hh => am_X G mX0_windsAll (d + 10) 15 [aR x, aI ru, aI y, aI (bShl 1 (tM T) - 1), aI 0, aI i] [] L hh Q) (fun i hh g0 g1 hP ih => ?_) h hM.1 ⟨FrS.rf h x, rfl, hr, fun m z0 z1 => by omega⟩
  obtain ⟨p1, p2, p3, p4⟩ := hP
  have hC1 := hC.fr p1
  have hht := hC1.ht
  refine x_iload5 dX0_windsAll_15 ?_
  refine x_aload_0 dX0_windsAll_17 ?_
  refine x_callV0 dX0_windsAll_18 rfl okX0_men q1196 q1198 qs33 (by first | assumption | (exact MkL.k0 (by assumption))) am_k0 rfl (C_X0_men hC1 (x_k1 ?_))
  refine x_icmp_ge (tgt := 57) dX0_windsAll_21 rfl (by omega) (by omega) (fun c21 => ?_) (fun c21 => ?_)
  · have ei : i = tM T := by omega
    rw [ei] at p4
    clear ih
    suffices H : ∀ (r : Nat) (a n : Int) (S2 : Row) (h2 : am_H) (w5 : AV), (0 ≤ a ∧ a < 128) → bits a ≤ r → (∀ m, tM T ≤ m → m < 7 → bt a m = 0) → RowI T S2 b q → RC L h2 (x + 48) T S2 → FrS h h2 x → h2 x = h x → (∀ m, 0 ≤ m → m < tM T → h2 (x + 248) m = keyR T S ru y m) → wnA T (keyR T S ru y) r a S2 n = dmR T S ru y → am_X G mX0_windsAll (d + 10) 57 [aR x, aI ru, aI y, aI a, aI n, w5] [] L h2 Q from H 7 _ 0 S hh (aI i) fo.1 (by omega) (full_hi hT) hI p3 p1 p2 p4 rfl
    intro r
    induction r with
    | zero =>
      intro a n S2 h2 w5 z1 z2 z3 z4 z5 z6 z7 z8 z9
      have e0 := bits_0 z1 (by omega)
      refine x_iload_3 dX0_windsAll_57 ?_
      refine x_if_eq (tgt := 102) dX0_windsAll_58 rfl (by omega) (fun c58 => ?_) (fun c58 => ?_)
      · refine x_iload4 dX0_windsAll_102 ?_
        refine x_iret dX0_windsAll_104 rfl ?_
        have e1 : (S2, n) = dmR T S ru y := z9
        refine x_q1 ?_ (k h2 ?_ z6 z7)
        · rw [← e1]
        · rw [← e1]; exact z5
      · exfalso; omega
    | succ r ihr =>
      intro a n S2 h2 w5 z1 z2 z3 z4 z5 z6 z7 z8 z9
      have hC2 := hC.fr z6
      refine x_iload_3 dX0_windsAll_57 ?_
      refine x_if_eq (tgt := 102) dX0_windsAll_58 rfl (by omega) (fun c58 => ?_) (fun c58 => ?_)
      · refine x_iload4 dX0_windsAll_102 ?_
        refine x_iret dX0_windsAll_104 rfl ?_
        have e1 : (S2, n) = dmR T S ru y := by
          rw [← z9]
          unfold wnA
          rw [if_pos (by omega)]
        refine x_q1 ?_ (k h2 ?_ z6 z7)
        · rw [← e1]
        · rw [← e1]; exact z5
      · obtain ⟨n1, n2⟩ := nx_in hT (keyR T S ru y) z1 (by omega) z3
        have hcl2 := z5.1
        unfold wnA at z9
        rw [if_neg (by omega)] at z9
        refine x_aload_0 dX0_windsAll_61 ?_
        refine x_iload_3 dX0_windsAll_62 ?_
        refine x_callV1 dX0_windsAll_63 rfl okX0_nextOf q1436 q1438 qs45 (by first | assumption | (exact MkL.k0 (by assumption))) am_k0 rfl (C_X0_nextOf hC2 hT z8 (x_k1 ?_))
        generalize nxI (keyR T S ru y) a (tM T).toNat = m at n1 n2 z9 ⊢
        have c1 := clr_rg z1 (m := m) ⟨n1.1, by omega⟩
        have c2 := clr_hi z1 (m := m) ⟨n1.1, by omega⟩ hM.1 z3
        have c3 := clr_bits z1 (m := m) ⟨n1.1, by omega⟩ n2
        refine x_istore5 dX0_windsAll_66 rfl ?_
        refine x_iload4 dX0_windsAll_68 ?_
        refine x_aload_0 dX0_windsAll_70 ?_
        refine x_getR dX0_windsAll_71 fl579_0 rfl (by first | (exact MkL.k0 (by assumption)) | (assumption)) (by first | (exact MkL.v_trial (by assumption)) | (assumption)) ?_
        refine x_iload5 dX0_windsAll_74 ?_
        refine x_callV1 dX0_windsAll_76 rfl okX5_winds q1267 q1268 q1269 (by first | assumption | (exact ClL.k0 (by assumption))) am_k5 rfl (C_X5_winds z5 z4 hT n1 (fun hcan h3 hr3 hf3 => (x_k1 ?_)) (fun hcan => (x_k1 ?_)))
        · rw [if_pos hcan] at z9
          refine x_if_eq (tgt := 86) dX0_windsAll_79 rfl (by omega) (fun c79 => ?_) (fun c79 => ?_)
          · exact absurd c79 (by decide)
          · refine x_iconst dX0_windsAll_82 ?_
            refine x_goto (tgt := 87) dX0_windsAll_83 rfl ?_
            refine x_iadd dX0_windsAll_87 ?_
            refine x_istore4 dX0_windsAll_88 rfl ?_
            refine x_iload_3 dX0_windsAll_90 ?_
            refine x_iconst dX0_windsAll_91 ?_
            refine x_iload5 dX0_windsAll_92 ?_
            refine x_ishl dX0_windsAll_94 ?_
            refine x_iconst dX0_windsAll_95 ?_
            refine x_ixor dX0_windsAll_96 ?_
            refine x_iand dX0_windsAll_97 ?_
            refine x_istore_3 dX0_windsAll_98 rfl ?_
            refine x_goto (tgt := 57) dX0_windsAll_99 rfl ?_
            exact ihr (dif a (bShl 1 m)) _ _ h3 _ c1 (by omega) c2 (z4.wind hT n1 hcan) hr3 (z6.tr hf3.trial) (by rw [← z7]; exact hf3 x (by omega)) (fun j y0 y1 => by rw [hf3 (x + 248) (by omega)]; exact z8 j y0 y1) z9
        · rw [if_neg hcan] at z9
          refine x_if_eq (tgt := 86) dX0_windsAll_79 rfl (by omega) (fun c79 => ?_) (fun c79 => ?_)
          · refine x_iconst dX0_windsAll_86 ?_
            refine x_iadd dX0_windsAll_87 ?_
            refine x_istore4 dX0_windsAll_88 rfl ?_
            refine x_iload_3 dX0_windsAll_90 ?_
            refine x_iconst dX0_windsAll_91 ?_
            refine x_iload5 dX0_windsAll_92 ?_
            refine x_ishl dX0_windsAll_94 ?_
            refine x_iconst dX0_windsAll_95 ?_
            refine x_ixor dX0_windsAll_96 ?_
            refine x_iand dX0_windsAll_97 ?_
            refine x_istore_3 dX0_windsAll_98 rfl ?_
            refine x_goto (tgt := 57) dX0_windsAll_99 rfl ?_
            rw [Int.add_zero]
            exact ihr (dif a (bShl 1 m)) _ _ h2 _ c1 (by omega) c2 z4 z5 z6 z7 z8 z9
          · exact absurd rfl c79
  · have hi : i < tM T := by omega
    have kr := keyR_rg hI hT hq (ru := ru) (y := y) ⟨g0, hi⟩
    refine x_aload_0 dX0_windsAll_24 ?_
    refine x_getR dX0_windsAll_25 fl587_0 rfl (by first | (exact MkL.k0 (by assumption)) | (assumption)) (by first | (exact MkL.v_told (by assumption)) | (assumption)) ?_
    refine x_iload5 dX0_windsAll_28 ?_
    refine x_aload_0 dX0_windsAll_30 ?_
    refine x_getR dX0_windsAll_31 fl582_0 rfl (by first | (exact MkL.k0 (by assumption)) | (assumption)) (by first | (exact MkL.v_dusks (by assumption)) | (assumption)) ?_
    refine x_iload_1 dX0_windsAll_34 ?_
    refine x_aald dX0_windsAll_35 (by first | (exact MkL.k_dusks (by assumption)) | (assumption)) (by decide) (by decide) (by first | (exact MkL.x_dusks (by assumption) (by omega) (by omega)) | (omega)) (by first | (exact MkL.e_dusks (by assumption) (by omega) (by omega)) | (assumption)) ?_
    refine x_aload_0 dX0_windsAll_36 ?_
    refine x_getR dX0_windsAll_37 fl579_0 rfl (by first | (exact MkL.k0 (by assumption)) | (assumption)) (by first | (exact MkL.v_trial (by assumption)) | (assumption)) ?_
    refine x_aload_0 dX0_windsAll_40 ?_
    refine x_getW dX0_windsAll_41 fl574_0 rfl (by first | (exact MkL.k0 (by assumption)) | (assumption)) (by assumption) ?_
    refine x_iload5 dX0_windsAll_44 ?_
    refine x_iload_2 dX0_windsAll_46 ?_
    refine x_tells dX0_windsAll_47 rfl q1413 hK hru p3 hI hT htx ⟨g0, hi⟩ rfl ?_
    refine x_iast_ dX0_windsAll_50 (by first | (exact MkL.k_told (by assumption)) | (assumption)) (by first | (exact MkL.x_told (by assumption) (by omega) (by omega)) | (omega)) (by exact kr) ?_
    refine x_iinc5 dX0_windsAll_51 rfl ?_
    refine x_goto (tgt := 15) dX0_windsAll_54 rfl ?_
    refine ih _ hi ⟨p1.tr (FrS.wt (by omega)), by rw [am_st_o (by omega)]; exact p2, p3.fr (fun a z0 z1 => by rw [am_st_o (by omega)]), fun m z0 z1 => ?_⟩
    rw [am_st_at]
    by_cases e : m = i
    · rw [if_pos ⟨rfl, e⟩, e]
    · rw [if_neg (fun z => e z.2)]
      exact p4 m z0 (by omega)
set_option maxHeartbeats 4000000 in
theorem C_X0_runsDusk {ru : Int} (hC : CoT L h x t T S) (hT : TxtI T) (hI : RowI T S b q) (hq : q ≤ 100000) (hru : 0 ≤ ru ∧ ru < 5) (k : ∀ h', RC L h' (x + 48) T (dkR T S ru).1 → FrS h h' x → h' x 17 = (dkR T S ru).2.1 → h' x 18 = (dkR T S ru).2.2 → Q (.inl []) L h') : am_C G mX0_runsDusk (d + 20) [aR x, aI ru] L h Q := by
  have hK := hC.mk
  have hM := hT.1
  have hcl := hC.cl
  have htr := hK.trial
  have b0 := pcs0_bd hT hI
  have fx : ∀ {hh : am_H} {i v : Int}, (i = 17 ∨ i = 18) → FrS hh (am_st hh x i v) x := fun {hh i v} z y j hy => by
    rw [am_st_at, if_neg (fun e => by omega)]
  have hC0 := (hC.fr (fx (i := 17) (v := 0) (by omega))).fr (fx (i := 18) (v := 0) (by omega))
  refine x_start okX0_runsDusk rfl rfl rfl rfl ?_
  refine x_aload_0 dX0_runsDusk_0 ?_
  refine x_iconst dX0_runsDusk_1 ?_
  refine x_putI_ dX0_runsDusk_2 fl588_0 (by first | (exact MkL.k0 (by assumption)) | (assumption)) (by omega) ?_
  refine x_aload_0 dX0_runsDusk_5 ?_
  refine x_iconst dX0_runsDusk_6 ?_
  refine x_putI_ dX0_runsDusk_7 fl589_0 (by first | (exact MkL.k0 (by assumption)) | (assumption)) (by omega) ?_
  refine x_aload_0 dX0_runsDusk_10 ?_
  refine x_getR dX0_runsDusk_11 fl579_0 rfl (by first | (exact MkL.k0 (by assumption)) | (assumption)) (by first | (exact MkL.v_trial (by assumption)) | (assumption)) ?_
  refine x_aload_0 dX0_runsDusk_14 ?_
  refine x_getR dX0_runsDusk_15 fl578_0 rfl (by first | (exact MkL.k0 (by assumption)) | (assumption)) (by first | (exact MkL.v_cloth (by assumption)) | (assumption)) ?_
  refine x_callV1 dX0_runsDusk_18 rfl okX5_takes q1237 q1238 q1239 (by first | assumption | (exact ClL.k0 (by assumption))) am_k5 rfl (C_X5_takes hC0.rc htr hI hT (by omega) (fun h1 hr1 hf1 => (x_k0 ?_)))
  have hF1 : FrS h h1 x := ((fx (by omega)).tr (fx (by omega))).tr hf1.trial
  have hC1 := hC.fr hF1
  have hx1 : h1 x = _ := hf1 x (by omega)
  have e17 : h1 x 17 = 0 := by rw [hx1]; simp [am_st_at]
  have e18 : h1 x 18 = 0 := by rw [hx1]; simp [am_st_at]
  refine x_aload_0 dX0_runsDusk_21 ?_
  refine x_iload_1 dX0_runsDusk_22 ?_
  refine x_iconst dX0_runsDusk_23 ?_
  refine x_callV2 dX0_runsDusk_24 rfl okX0_windsAll q1409 q1411 qs44 (by first | assumption | (exact MkL.k0 (by assumption))) am_k0 rfl (C_X0_windsAll hC1 hr1 hT hI hq hru (fun h2 hr2 hf2 hx2 => (x_k1 ?_)))
  refine x_istore_2 dX0_runsDusk_27 rfl ?_
  obtain ⟨d1, d2, d3, d4⟩ := dm_ok hT hI ru 0
  have b1 := pcs0_bd hT d1
  suffices H : ∀ (r : Nat) (S2 : Row) (y p : Int) (h3 : am_H), RowI T S2 b q → RC L h3 (x + 48) T (dmR T S2 ru y).1 → FrS h h3 x → h3 x 17 = y → h3 x 18 = p → (0 ≤ y ∧ y + r = 421) → (0 ≤ p ∧ p + sumI (tM T) (rN S2) ≤ 420) → sumI (tM T) (rN S2) < r → dkF T ru r S2 y p = dkR T S ru → am_X G mX0_runsDusk (d + 20) 28 [aR x, aI ru, aI (dmR T S2 ru y).2] [] L h3 Q from H 421 S 0 0 h2 hI hr2 (hF1.tr hf2) (by rw [hx2]; exact e17) (by rw [hx2]; exact e18) (by omega) (by omega) (by omega) rfl
  intro r
  induction r with
  | zero =>
    intro S2 y p h3 z1 z2 z3 z4 z5 z6 z7 z8
    have := pcs0_bd hT z1
    omega
  | succ r ih =>
    intro S2 y p h3 z1 z2 z3 z4 z5 z6 z7 z8 z9
    obtain ⟨q1, q2, q3, q4⟩ := dm_ok hT z1 ru y
    have b2 := pcs0_bd hT q1
    unfold dkF at z9
    refine x_iload_2 dX0_runsDusk_28 ?_
    refine x_if_le (tgt := 65) dX0_runsDusk_29 rfl (by omega) (fun c29 => ?_) (fun c29 => ?_)
    · refine x_ret dX0_runsDusk_65 rfl ?_
      rw [if_neg (by omega)] at z9
      refine k h3 ?_ z3 ?_ ?_
      · rw [← z9]; exact z2
      · rw [← z9]; exact z4
      · rw [← z9]; exact z5
    · refine x_aload_0 dX0_runsDusk_32 ?_
      refine x_dup dX0_runsDusk_33 rfl ?_
      refine x_getI_ dX0_runsDusk_34 fl588_0 (by first | (exact MkL.k0 (by assumption)) | (assumption)) (fun r34 => ?_)
      rw [z4] at r34 ⊢
      refine x_iconst dX0_runsDusk_37 ?_
      refine x_iadd dX0_runsDusk_38 ?_
      refine x_putI_ dX0_runsDusk_39 fl588_0 (by first | (exact MkL.k0 (by assumption)) | (assumption)) (by omega) ?_
      refine x_aload_0 dX0_runsDusk_42 ?_
      refine x_dup dX0_runsDusk_43 rfl ?_
      refine x_getI_ dX0_runsDusk_44 fl589_0 (by first | (exact MkL.k0 (by assumption)) | (assumption)) (fun r44 => ?_)
      simp (disch := omega) only [am_st_i, z5] at r44 ⊢
      refine x_iload_2 dX0_runsDusk_47 ?_
      refine x_iadd dX0_runsDusk_48 ?_
      refine x_putI_ dX0_runsDusk_49 fl589_0 (by first | (exact MkL.k0 (by assumption)) | (assumption)) (by omega) ?_
      rw [if_pos (by omega)] at z9
      have hF3 : FrS h (am_st (am_st h3 x 17 (y + 1)) x 18 (p + (dmR T S2 ru y).2)) x := z3.tr ((fx (by omega)).tr (fx (by omega)))
      have hC3 := hC.fr hF3
      have e17 : am_st (am_st h3 x 17 (y + 1)) x 18 (p + (dmR T S2 ru y).2) x 17 = y + 1 := by simp [am_st_at]
      have e18 : am_st (am_st h3 x 17 (y + 1)) x 18 (p + (dmR T S2 ru y).2) x 18 = p + (dmR T S2 ru y).2 := by simp [am_st_at]
      have hr3 : RC L (am_st (am_st h3 x 17 (y + 1)) x 18 (p + (dmR T S2 ru y).2)) (x + 48) T (dmR T S2 ru y).1 := z2.fr (fun a y0 y1 => by rw [am_st_o (by omega), am_st_o (by omega)])
      generalize am_st (am_st h3 x 17 (y + 1)) x 18 (p + (dmR T S2 ru y).2) = h4 at hF3 hC3 e17 e18 hr3 ⊢
      refine x_aload_0 dX0_runsDusk_52 ?_
      refine x_iload_1 dX0_runsDusk_53 ?_
      refine x_aload_0 dX0_runsDusk_54 ?_
      refine x_getI_ dX0_runsDusk_55 fl588_0 (by first | (exact MkL.k0 (by assumption)) | (assumption)) (fun r55 => ?_)
      rw [e17] at r55 ⊢
      refine x_callV2 dX0_runsDusk_58 rfl okX0_windsAll q1409 q1411 qs44 (by first | assumption | (exact MkL.k0 (by assumption))) am_k0 rfl (C_X0_windsAll hC3 hr3 hT q1 hq hru (fun h5 hr5 hf5 hx5 => (x_k1 ?_)))
      refine x_istore_2 dX0_runsDusk_61 rfl ?_
      refine x_goto (tgt := 28) dX0_runsDusk_62 rfl ?_
      exact ih _ (y + 1) _ h5 q1 hr5 (hF3.tr hf5) (by rw [hx5]; exact e17) (by rw [hx5]; exact e18) (by omega) (by omega) (by omega) z9
set_option maxHeartbeats 4000000 in
theorem C_X0_dusk {ru w : Int} (hC : CoT L h x t T S) (hT : TxtI T) (hI : RowI T S b q) (hq : q ≤ 100000) (hru : rg32 ru) (hw : rg32 w) (k : ∀ h', FrS h h' x → Q (.inl [aI (duskV T S ru w)]) L h') : am_C G mX0_dusk (d + 430) [aR x, aI ru, aI w] L h Q := by
  have hK := hC.mk
  have hM := hT.1
  refine x_start okX0_dusk rfl rfl rfl rfl ?_
  refine x_iload_1 dX0_dusk_0 ?_
  refine x_iconst dX0_dusk_1 ?_
  refine x_iconst dX0_dusk_2 ?_
  refine x_callS3 dX0_dusk_3 rfl okX0_isIn q1201 q1202 rfl (C_X0_isIn hru ⟨by decide, by decide⟩ ⟨by decide, by decide⟩ (x_k1 ?_))
  refine x_if_eq (tgt := 18) dX0_dusk_6 rfl (by split <;> omega) (fun c6 => ?_) (fun c6 => ?_)
  · skip
    refine x_iconst dX0_dusk_18 ?_
    refine x_iret dX0_dusk_19 rfl ?_
    refine x_q1 ?_ (k h (FrS.rf h x))
    unfold duskV
    rw [if_neg (fun z => by obtain ⟨z1, z2⟩ := z; first | (rw [if_pos z1] at c6; omega) | (rw [if_pos z2] at c15; omega))]
  · refine x_iload_2 dX0_dusk_9 ?_
    refine x_iconst dX0_dusk_10 ?_
    refine x_iconst dX0_dusk_11 ?_
    refine x_callS3 dX0_dusk_12 rfl okX0_isIn q1201 q1202 rfl (C_X0_isIn hw ⟨by decide, by decide⟩ ⟨by decide, by decide⟩ (x_k1 ?_))
    refine x_if_ne (tgt := 20) dX0_dusk_15 rfl (by split <;> omega) (fun c15 => ?_) (fun c15 => ?_)
    · have hr1 : 0 ≤ ru ∧ ru ≤ 4 := by split at c6 <;> omega
      have hw1 : 0 ≤ w ∧ w ≤ 3 := by split at c15 <;> omega
      have eV : duskV T S ru w = (if w = 0 then (dkR T S ru).2.1 else if w = 1 then (dkR T S ru).2.2 else if w = 2 then bset (homP (dkR T S ru).1) (tM T).toNat else bset (outP (dkR T S ru).1) (tM T).toNat) := by
        unfold duskV
        rw [if_pos ⟨hr1, hw1⟩]
      obtain ⟨hR, -⟩ := dkR_bd hT hI ru
      refine x_iconst dX0_dusk_20 ?_
      refine x_istore_3 dX0_dusk_21 rfl ?_
      refine x_iconst dX0_dusk_22 ?_
      refine x_istore4 dX0_dusk_23 rfl ?_
      refine x_aload_0 dX0_dusk_25 ?_
      refine x_iload_1 dX0_dusk_26 ?_
      refine x_callV1 dX0_dusk_27 rfl okX0_runsDusk q1405 q1407 qs43 (by first | assumption | (exact MkL.k0 (by assumption))) am_k0 rfl (C_X0_runsDusk hC hT hI hq ⟨hr1.1, by omega⟩ (fun h1 hr1 hf1 e17 e18 => (x_k0 ?_)))
      refine x_iconst dX0_dusk_30 ?_
      refine x_istore5 dX0_dusk_31 rfl ?_
      have hC1 := hC.fr hf1
      have hcl := hr1.1
      generalize dkR T S ru = D at eV hR hr1 e17 e18
      refine x_up0 (tM T) (fun i => 0 ≤ i → i ≤ tM T → am_X G mX0_dusk (d + 430) 33 [aR x, aI ru, aI w, aI (bset (homP D.1) i.toNat), aI (bset (outP D.1) i.toNat), aI i] [] L h1 Q) (fun i ih g0 g1 => ?_) 0 (by omega) hM.1
      have bi := (bset_ok (homP D.1) i.toNat (by omega)).1
      have bo := (bset_ok (outP D.1) i.toNat (by omega)).1
      have nxt : ∀ u v, i < tM T → u = bset (homP D.1) (i + 1).toNat → v = bset (outP D.1) (i + 1).toNat → am_X G mX0_dusk (d + 430) 33 [aR x, aI ru, aI w, aI u, aI v, aI (i + 1)] [] L h1 Q := fun u v z e e' => by rw [e, e']; exact ih z (by omega) (by omega)
      refine x_iload5 dX0_dusk_33 ?_
      refine x_aload_0 dX0_dusk_35 ?_
      refine x_callV0 dX0_dusk_36 rfl okX0_men q1196 q1198 qs33 (by first | assumption | (exact MkL.k0 (by assumption))) am_k0 rfl (C_X0_men hC1 (x_k1 ?_))
      refine x_icmp_ge (tgt := 92) dX0_dusk_39 rfl (by omega) (by omega) (fun c39 => ?_) (fun c39 => ?_)
      · have ei : i = tM T := by omega
        subst ei
        refine x_iload_2 dX0_dusk_92 ?_
        refine x_if_ne (tgt := 103) dX0_dusk_93 rfl (by omega) (fun c93 => ?_) (fun c93 => ?_)
        · refine x_iload_2 dX0_dusk_103 ?_
          refine x_iconst dX0_dusk_104 ?_
          refine x_icmp_ne (tgt := 115) dX0_dusk_105 rfl (by omega) (by omega) (fun c105 => ?_) (fun c105 => ?_)
          · refine x_iload_2 dX0_dusk_115 ?_
            refine x_iconst dX0_dusk_116 ?_
            refine x_icmp_ne (tgt := 124) dX0_dusk_117 rfl (by omega) (by omega) (fun c117 => ?_) (fun c117 => ?_)
            · refine x_iload4 dX0_dusk_124 ?_
              refine x_iret dX0_dusk_126 rfl ?_
              refine x_q1 ?_ (k h1 hf1)
              rw [eV]
              (repeat' split) <;> first | rfl | omega
            · refine x_iload_3 dX0_dusk_120 ?_
              refine x_goto (tgt := 126) dX0_dusk_121 rfl ?_
              refine x_iret dX0_dusk_126 rfl ?_
              refine x_q1 ?_ (k h1 hf1)
              rw [eV]
              (repeat' split) <;> first | rfl | omega
          · refine x_aload_0 dX0_dusk_108 ?_
            refine x_getI_ dX0_dusk_109 fl589_0 (by first | (exact MkL.k0 (by assumption)) | (assumption)) (fun r109 => ?_)
            rw [e18] at r109 ⊢
            refine x_goto (tgt := 126) dX0_dusk_112 rfl ?_
            refine x_iret dX0_dusk_126 rfl ?_
            refine x_q1 ?_ (k h1 hf1)
            rw [eV]
            (repeat' split) <;> first | rfl | omega
        · refine x_aload_0 dX0_dusk_96 ?_
          refine x_getI_ dX0_dusk_97 fl588_0 (by first | (exact MkL.k0 (by assumption)) | (assumption)) (fun r97 => ?_)
          rw [e17] at r97 ⊢
          refine x_goto (tgt := 126) dX0_dusk_100 rfl ?_
          refine x_iret dX0_dusk_126 rfl ?_
          refine x_q1 ?_ (k h1 hf1)
          rw [eV]
          (repeat' split) <;> first | rfl | omega
      · have hi : i < tM T := by omega
        have en := hr1.2.1 i g0 (by omega)
        have bn := hR.n60 hT i g0 (by omega)
        have b01 := bt_01 (rL D.1) i
        refine x_aload_0 dX0_dusk_42 ?_
        refine x_getR dX0_dusk_43 fl579_0 rfl (by first | (exact MkL.k0 (by assumption)) | (assumption)) (by first | (exact MkL.v_trial (by assumption)) | (assumption)) ?_
        refine x_getR dX0_dusk_46 fl438_5 rfl (by first | (exact ClL.k0 (by assumption)) | (assumption)) (by first | (exact ClL.f2 (by assumption)) | (assumption)) ?_
        refine x_iload5 dX0_dusk_49 ?_
        refine x_iald_ dX0_dusk_51 (by first | (exact ClL.k3 (by assumption)) | (assumption)) (by first | (exact ClL.r3 (by assumption) (by omega) (by omega)) | (omega)) (fun r51 => ?_)
        rw [en] at r51 ⊢
        refine x_if_le (tgt := 67) dX0_dusk_52 rfl (by omega) (fun c52 => ?_) (fun c52 => ?_)
        · refine x_aload_0 dX0_dusk_67 ?_
          refine x_getR dX0_dusk_68 fl579_0 rfl (by first | (exact MkL.k0 (by assumption)) | (assumption)) (by first | (exact MkL.v_trial (by assumption)) | (assumption)) ?_
          refine x_iload5 dX0_dusk_71 ?_
          refine x_callV1 dX0_dusk_73 rfl okX5_isLost q1206 q1207 q1208 (by first | assumption | (exact ClL.k0 (by assumption))) am_k5 rfl (C_X5_isLost hr1 ⟨g0, by omega⟩ (x_k1 ?_))
          refine x_if_ne (tgt := 86) dX0_dusk_76 rfl (by omega) (fun c76 => ?_) (fun c76 => ?_)
          · refine x_iinc5 dX0_dusk_86 rfl ?_
            refine x_goto (tgt := 33) dX0_dusk_89 rfl ?_
            refine nxt _ _ hi ?_ ?_
            · rw [bset_s _ g0]
              first
              | (rw [if_pos (show homP D.1 i = true from decide_eq_true ⟨by omega, by omega⟩)]; done)
              | (rw [if_neg (show ¬ homP D.1 i = true from fun z => by have := of_decide_eq_true z; omega)]; done)
            · rw [bset_s _ g0]
              first
              | (rw [if_pos (show outP D.1 i = true from decide_eq_true (by omega))]; done)
              | (rw [if_neg (show ¬ outP D.1 i = true from fun z => by have := of_decide_eq_true z; omega)]; done)
          · refine x_iload_3 dX0_dusk_79 ?_
            refine x_iconst dX0_dusk_80 ?_
            refine x_iload5 dX0_dusk_81 ?_
            refine x_ishl dX0_dusk_83 ?_
            refine x_ior dX0_dusk_84 ?_
            refine x_istore_3 dX0_dusk_85 rfl ?_
            refine x_iinc5 dX0_dusk_86 rfl ?_
            refine x_goto (tgt := 33) dX0_dusk_89 rfl ?_
            refine nxt _ _ hi ?_ ?_
            · rw [bset_s _ g0]
              first
              | (rw [if_pos (show homP D.1 i = true from decide_eq_true ⟨by omega, by omega⟩)]; done)
              | (rw [if_neg (show ¬ homP D.1 i = true from fun z => by have := of_decide_eq_true z; omega)]; done)
            · rw [bset_s _ g0]
              first
              | (rw [if_pos (show outP D.1 i = true from decide_eq_true (by omega))]; done)
              | (rw [if_neg (show ¬ outP D.1 i = true from fun z => by have := of_decide_eq_true z; omega)]; done)
        · refine x_iload4 dX0_dusk_55 ?_
          refine x_iconst dX0_dusk_57 ?_
          refine x_iload5 dX0_dusk_58 ?_
          refine x_ishl dX0_dusk_60 ?_
          refine x_ior dX0_dusk_61 ?_
          refine x_istore4 dX0_dusk_62 rfl ?_
          refine x_goto (tgt := 86) dX0_dusk_64 rfl ?_
          refine x_iinc5 dX0_dusk_86 rfl ?_
          refine x_goto (tgt := 33) dX0_dusk_89 rfl ?_
          refine nxt _ _ hi ?_ ?_
          · rw [bset_s _ g0]
            first
            | (rw [if_pos (show homP D.1 i = true from decide_eq_true ⟨by omega, by omega⟩)]; done)
            | (rw [if_neg (show ¬ homP D.1 i = true from fun z => by have := of_decide_eq_true z; omega)]; done)
          · rw [bset_s _ g0]
            first
            | (rw [if_pos (show outP D.1 i = true from decide_eq_true (by omega))]; done)
            | (rw [if_neg (show ¬ outP D.1 i = true from fun z => by have := of_decide_eq_true z; omega)]; done)
    · skip
      refine x_iconst dX0_dusk_18 ?_
      refine x_iret dX0_dusk_19 rfl ?_
      refine x_q1 ?_ (k h (FrS.rf h x))
      unfold duskV
      rw [if_neg (fun z => by obtain ⟨z1, z2⟩ := z; first | (rw [if_pos z1] at c6; omega) | (rw [if_pos z2] at c15; omega))]
set_option maxHeartbeats 4000000 in
theorem C_X0_bestDusk (hC : CoT L h x t T S) (hT : TxtI T) (hI : RowI T S b q) (hq : q ≤ 100000) (k : ∀ h', FrS h h' x → Q (.inl [aI (bestV T S)]) L h') : am_C G mX0_bestDusk (d + 430) [aR x] L h Q := by
  have hK := hC.mk
  have hM := hT.1
  refine x_start okX0_bestDusk rfl rfl rfl rfl ?_
  refine x_iconst dX0_bestDusk_0 ?_
  refine x_istore_1 dX0_bestDusk_1 rfl ?_
  refine x_iconst dX0_bestDusk_2 ?_
  refine x_istore_2 dX0_bestDusk_3 rfl ?_
  refine x_iconst dX0_bestDusk_4 ?_
  refine x_istore_3 dX0_bestDusk_5 rfl ?_
  refine x_iconst dX0_bestDusk_6 ?_
  refine x_istore4 dX0_bestDusk_7 rfl ?_
  skip
  refine x_for 5 (fun i hh => FrS h hh x) (fun i hh => am_X G mX0_bestDusk (d + 430) 9 [aR x, aI (bdI T S i.toNat).1, aI (bdI T S i.toNat).2.1, aI (bdI T S i.toNat).2.2, aI i] [] L hh Q) (fun i hh g0 g1 hP ih => ?_) h (by omega) (FrS.rf h x)
  have hC1 := hC.fr hP
  obtain ⟨b1, b2⟩ := bdI_bd hT hI i.toNat
  obtain ⟨-, b3, b4, b5⟩ := dkR_bd hT hI i
  have nxt : ∀ u v w hh, i < 5 → FrS h hh x → (u, v, w) = bdI T S (i + 1).toNat → am_X G mX0_bestDusk (d + 430) 9 [aR x, aI u, aI v, aI w, aI (i + 1)] [] L hh Q := fun u v w hh z z2 e => by
    have := ih hh z z2
    rw [← e] at this
    exact this
  refine x_iload4 dX0_bestDusk_9 ?_
  refine x_iconst dX0_bestDusk_11 ?_
  refine x_icmp_ge (tgt := 67) dX0_bestDusk_12 rfl (by omega) (by omega) (fun c12 => ?_) (fun c12 => ?_)
  · refine x_iload_1 dX0_bestDusk_67 ?_
    refine x_iret dX0_bestDusk_68 rfl ?_
    rw [show i = 5 by omega]
    exact k hh hP
  · refine x_aload_0 dX0_bestDusk_15 ?_
    refine x_iload4 dX0_bestDusk_16 ?_
    refine x_callV1 dX0_bestDusk_18 rfl okX0_runsDusk q1405 q1407 qs43 (by first | assumption | (exact MkL.k0 (by assumption))) am_k0 rfl (C_X0_runsDusk hC1 hT hI hq ⟨g0, by omega⟩ (fun h1 hr1 hf1 e17 e18 => (x_k0 ?_)))
    refine x_aload_0 dX0_bestDusk_21 ?_
    refine x_getI_ dX0_bestDusk_22 fl589_0 (by first | (exact MkL.k0 (by assumption)) | (assumption)) (fun r22 => ?_)
    rw [e18] at r22 ⊢
    refine x_iload_2 dX0_bestDusk_25 ?_
    refine x_icmp_lt (tgt := 61) dX0_bestDusk_26 rfl (by omega) (by omega) (fun c26 => ?_) (fun c26 => ?_)
    · refine x_iinc4 dX0_bestDusk_61 rfl ?_
      refine x_goto (tgt := 9) dX0_bestDusk_64 rfl ?_
      refine nxt _ _ _ h1 (by omega) (hP.tr hf1) ?_
      rw [bdI_s g0]
      first
      | (rw [if_pos (by omega)]; done)
      | (rw [if_neg (by omega)]; done)
    · refine x_aload_0 dX0_bestDusk_29 ?_
      refine x_getI_ dX0_bestDusk_30 fl589_0 (by first | (exact MkL.k0 (by assumption)) | (assumption)) (fun r30 => ?_)
      rw [e18] at r30 ⊢
      refine x_iload_2 dX0_bestDusk_33 ?_
      refine x_icmp_ne (tgt := 48) dX0_bestDusk_34 rfl (by omega) (by omega) (fun c34 => ?_) (fun c34 => ?_)
      · refine x_iload4 dX0_bestDusk_48 ?_
        refine x_istore_1 dX0_bestDusk_50 rfl ?_
        refine x_aload_0 dX0_bestDusk_51 ?_
        refine x_getI_ dX0_bestDusk_52 fl589_0 (by first | (exact MkL.k0 (by assumption)) | (assumption)) (fun r52 => ?_)
        rw [e18] at r52 ⊢
        refine x_istore_2 dX0_bestDusk_55 rfl ?_
        refine x_aload_0 dX0_bestDusk_56 ?_
        refine x_getI_ dX0_bestDusk_57 fl588_0 (by first | (exact MkL.k0 (by assumption)) | (assumption)) (fun r57 => ?_)
        rw [e17] at r57 ⊢
        refine x_istore_3 dX0_bestDusk_60 rfl ?_
        refine x_iinc4 dX0_bestDusk_61 rfl ?_
        refine x_goto (tgt := 9) dX0_bestDusk_64 rfl ?_
        refine nxt _ _ _ h1 (by omega) (hP.tr hf1) ?_
        rw [bdI_s g0]
        first
        | (rw [if_pos (by omega)]; done)
        | (rw [if_neg (by omega)]; done)
      · refine x_aload_0 dX0_bestDusk_37 ?_
        refine x_getI_ dX0_bestDusk_38 fl588_0 (by first | (exact MkL.k0 (by assumption)) | (assumption)) (fun r38 => ?_)
        rw [e17] at r38 ⊢
        refine x_iload_3 dX0_bestDusk_41 ?_
        refine x_icmp_lt (tgt := 48) dX0_bestDusk_42 rfl (by omega) (by omega) (fun c42 => ?_) (fun c42 => ?_)
        · refine x_iload4 dX0_bestDusk_48 ?_
          refine x_istore_1 dX0_bestDusk_50 rfl ?_
          refine x_aload_0 dX0_bestDusk_51 ?_
          refine x_getI_ dX0_bestDusk_52 fl589_0 (by first | (exact MkL.k0 (by assumption)) | (assumption)) (fun r52 => ?_)
          rw [e18] at r52 ⊢
          refine x_istore_2 dX0_bestDusk_55 rfl ?_
          refine x_aload_0 dX0_bestDusk_56 ?_
          refine x_getI_ dX0_bestDusk_57 fl588_0 (by first | (exact MkL.k0 (by assumption)) | (assumption)) (fun r57 => ?_)
          rw [e17] at r57 ⊢
          refine x_istore_3 dX0_bestDusk_60 rfl ?_
          refine x_iinc4 dX0_bestDusk_61 rfl ?_
          refine x_goto (tgt := 9) dX0_bestDusk_64 rfl ?_
          refine nxt _ _ _ h1 (by omega) (hP.tr hf1) ?_
          rw [bdI_s g0]
          first
          | (rw [if_pos (by omega)]; done)
          | (rw [if_neg (by omega)]; done)
        · refine x_goto (tgt := 61) dX0_bestDusk_45 rfl ?_
          refine x_iinc4 dX0_bestDusk_61 rfl ?_
          refine x_goto (tgt := 9) dX0_bestDusk_64 rfl ?_
          refine nxt _ _ _ h1 (by omega) (hP.tr hf1) ?_
          rw [bdI_s g0]
          first
          | (rw [if_pos (by omega)]; done)
          | (rw [if_neg (by omega)]; done)
end DUSKC
