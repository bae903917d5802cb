/-! A PLAIN DAY: plain laws; ThreadTown's side -/
set_option maxRecDepth 100000
/-- how many of n pieces of a leg come to lie on a street -/
def lgC (w s : Int) : Nat → Int → Int → Int
  | 0, _, _ => 0
  | n + 1, x, y => (if stO x y w = s then 1 else 0) + lgC w s n (x + dX w) (y + dY w)
theorem lgC_bd (w s : Int) : ∀ (n : Nat) (x y : Int), 0 ≤ lgC w s n x y ∧ lgC w s n x y ≤ n
  | 0, _, _ => ⟨Int.le_refl _, by show (0 : Int) ≤ ((0 : Nat) : Int); omega⟩
  | n + 1, x, y => by
    have := lgC_bd w s n (x + dX w) (y + dY w)
    unfold lgC
    split <;> omega
theorem lgC_sum (w : Int) : ∀ (n : Nat) (x y : Int), sumI 288 (fun s => lgC w s n x y) ≤ n
  | 0, x, y => by
    have : sumI 288 (fun s => lgC w s 0 x y) = 0 := by
      have := sumI_bd (n := 288) (b := 0) (f := fun s => lgC w s 0 x y) (by omega) (fun k _ _ => ⟨Int.le_refl _, Int.le_refl _⟩)
      omega
    rw [this]
    omega
  | n + 1, x, y => by
    have h1 := lgC_sum w n (x + dX w) (y + dY w)
    have h2 : sumI 288 (fun s => if stO x y w = s then 1 else 0) ≤ 1 := sumI_one (c := stO x y w) (by omega) (fun k _ _ z => if_neg (fun y => z y.symm)) (fun _ => by split <;> omega)
    have h3 : sumI 288 (fun s => lgC w s (n + 1) x y) = sumI 288 (fun s => if stO x y w = s then 1 else 0) + sumI 288 (fun s => lgC w s n (x + dX w) (y + dY w)) := sumI_add _ _
    rw [h3]
    omega
/-- all legs by corners in order -/
def manC (ex ey : Int → Int) (c s : Int) : List Int → Int → Int → Int
  | [], _, _ => 0
  | k :: r, x, y => (lgC (if x < ex k then 2 else 4) s (apa x (ex k)).toNat x (if c = 0 then y else ey k) + lgC (if y < ey k then 1 else 3) s (apa y (ey k)).toNat (if c = 0 then ex k else x) y) + manC ex ey c s r (ex k) (ey k)
theorem manC_nn (ex ey : Int → Int) (c s : Int) : ∀ (l : List Int) (x y : Int), 0 ≤ manC ex ey c s l x y
  | [], _, _ => Int.le_refl _
  | k :: r, x, y => by
    have h1 := manC_nn ex ey c s r (ex k) (ey k)
    have h2 := (lgC_bd (if x < ex k then 2 else 4) s (apa x (ex k)).toNat x (if c = 0 then y else ey k)).1
    have h3 := (lgC_bd (if y < ey k then 1 else 3) s (apa y (ey k)).toNat (if c = 0 then ex k else x) y).1
    show 0 ≤ (_ + _) + _
    omega
theorem manC_sum {ex ey : Int → Int} {c : Int} {e : Int} (hx : ∀ k, 0 ≤ k → k < e → (0 ≤ ex k ∧ ex k ≤ 11) ∧ (0 ≤ ey k ∧ ey k ≤ 11)) : ∀ (l : List Int) (x y : Int), (∀ k ∈ l, 0 ≤ k ∧ k < e) → (0 ≤ x ∧ x ≤ 11) → (0 ≤ y ∧ y ≤ 11) → sumI 288 (fun s => manC ex ey c s l x y) ≤ 22 * l.length
  | [], x, y, _, _, _ => by
    have := sumI_bd (n := 288) (b := 0) (f := fun s => manC ex ey c s [] x y) (by omega) (fun k _ _ => ⟨Int.le_refl _, Int.le_refl _⟩)
    show _ ≤ 22 * ((0 : Nat) : Int)
    omega
  | k :: r, x, y, hl, hxx, hyy => by
    have hk := hl k (List.mem_cons_self ..)
    obtain ⟨h1, h2⟩ := hx k hk.1 hk.2
    have i1 := manC_sum (c := c) hx r (ex k) (ey k) (fun z hz => hl z (List.mem_cons_of_mem _ hz)) h1 h2
    have s1 := lgC_sum (if x < ex k then 2 else 4) (apa x (ex k)).toNat x (if c = 0 then y else ey k)
    have s2 := lgC_sum (if y < ey k then 1 else 3) (apa y (ey k)).toNat (if c = 0 then ex k else x) y
    have e1 : sumI 288 (fun s => manC ex ey c s (k :: r) x y) = (sumI 288 (fun s => lgC (if x < ex k then 2 else 4) s (apa x (ex k)).toNat x (if c = 0 then y else ey k)) + sumI 288 (fun s => lgC (if y < ey k then 1 else 3) s (apa y (ey k)).toNat (if c = 0 then ex k else x) y)) + sumI 288 (fun s => manC ex ey c s r (ex k) (ey k)) := by
      rw [← sumI_add, ← sumI_add]
      rfl
    have a1 := apa_bd hxx h1
    have a2 := apa_bd hyy h2
    have a3 := apa_nn x (ex k)
    have a4 := apa_nn y (ey k)
    rw [e1, List.length_cons]
    omega
theorem sumI_pt {n : Int} {f : Int → Int} (h : ∀ k : Int, 0 ≤ k → k < n → 0 ≤ f k) {k : Int} (hk : 0 ≤ k ∧ k < n) : f k ≤ sumI n f := by
  have h1 := sumI_lt (n := n) (c := f k) (k0 := k) (f := fun _ => 0) (g := f) hk h (by omega)
  have h2 := sumI_bd (n := n) (b := 0) (f := fun _ => (0 : Int)) (by omega) (fun k _ _ => by omega)
  omega
theorem sumI_mono {a c : Int} {f : Int → Int} (h0 : 0 ≤ a) (h1 : a ≤ c) (h : ∀ k : Int, 0 ≤ k → k < c → 0 ≤ f k) : sumI a f ≤ sumI c f := by
  have e := sumI_app (a := a) (c := c - a) f h0 (by omega)
  rw [show a + (c - a) = c by omega] at e
  have : 0 ≤ sumI (c - a) (fun k => f (a + k)) := by
    have h2 := sumI_le (n := c - a) (f := fun _ => 0) (g := fun k => f (a + k)) (by omega) (fun k z0 z1 => h (a + k) (by omega) (by omega))
    have h3 := sumI_bd (n := c - a) (b := 0) (f := fun _ => (0 : Int)) (by omega) (fun k _ _ => by omega)
    omega
  omega
theorem sumI_smul {n : Int} (c : Int) (f : Int → Int) : sumI n (fun k => c * f k) = c * sumI n f := by
  unfold sumI
  induction n.toNat with
  | zero => show (0 : Int) = c * 0; rw [Int.mul_zero]
  | succ m ih =>
    show sumN m _ + c * f m = c * (sumN m f + f m)
    rw [ih, Int.mul_add]
theorem wyV_el {ex ey : Int → Int} {e : Nat} (he : e ≤ 6) : ∀ (n a : Nat) (u v : Int), a ≤ n → a < 64 → a < 2 ^ e → ((wyV ex ey e 64 a u v).2.length : Int) = bits (a : Int) ∧ ∀ y ∈ (wyV ex ey e 64 a u v).2, 0 ≤ y ∧ y < (e : Int)
  | n, a, u, v, hn, h64, ha => by
    by_cases h0 : a = 0
    · subst h0
      refine ⟨?_, fun y hy => by cases hy⟩
      show ((0 : Nat) : Int) = bits ((0 : Nat) : Int)
      decide +kernel
    · match n, hn with
      | 0, hn => omega
      | n + 1, hn =>
        obtain ⟨k, k1, k2, k3, -, -⟩ := wyV_hd (ex := ex) (ey := ey) (u := u) (v := v) he h64 ha h0
        obtain ⟨b1, b2, b3⟩ := tbit (a := a) (k := k) h64 (by omega) k2
        have b4 : a - 2 ^ k < a := Nat.sub_lt (Nat.lt_of_lt_of_le b2 b1) b2
        obtain ⟨i1, i2⟩ := wyV_el (ex := ex) (ey := ey) he n (a - 2 ^ k) (ex k) (ey k) (by omega) (Nat.lt_trans b4 h64) (Nat.lt_trans b4 ha)
        have htb := bt_tb (a := a) (k := k) h64 (by omega)
        rw [k2, if_pos rfl] at htb
        have cb := clr_bits (a := (a : Int)) (m := (k : Int)) ⟨by omega, by omega⟩ ⟨by omega, by omega⟩ htb
        rw [b3] at cb
        rw [k3]
        refine ⟨?_, fun y hy => ?_⟩
        · show (((k : Int) :: (wyV ex ey e 64 (a - 2 ^ k) (ex k) (ey k)).2).length : Int) = _
          rw [List.length_cons]
          omega
        · rcases List.mem_cons.mp hy with rfl | hy
          · exact ⟨by omega, by omega⟩
          · exact i2 y hy
section PLAINP
variable {T : Txt}
def wyL (T : Txt) (m : Int) : List Int := (wyR T m (tDX T m) (tDY T m)).2
theorem wyL_ok (hT : TxtI T) {m : Int} (hm : 0 ≤ m ∧ m < tM T) : ((wyL T m).length : Int) = tE T m ∧ ∀ y ∈ wyL T m, 0 ≤ y ∧ y < tE T m := by
  obtain ⟨hE, he, hx⟩ := erd_n hT hm
  obtain ⟨pw, n64, n1⟩ := two_pw hE
  have fo := (full_ok (n := tE T m) ⟨hE.1, by omega⟩).2
  rw [pw, show ((2 ^ (tE T m).toNat : Nat) : Int) - 1 = ((2 ^ (tE T m).toNat - 1 : Nat) : Int) by omega] at fo
  obtain ⟨h1, h2⟩ := wyV_el (ex := tEX T m) (ey := tEY T m) he 64 (2 ^ (tE T m).toNat - 1) (tDX T m) (tDY T m) (by omega) (by omega) (by omega)
  exact ⟨h1.trans fo, fun y hy => by have := h2 y hy; omega⟩
/-- how many pieces of a man come to lie on a street, by his choice -/
def plC (T : Txt) (m c s : Int) : Int := manC (tEX T m) (tEY T m) c s (wyL T m) (tDX T m) (tDY T m)
theorem plC_bd (hT : TxtI T) {m : Int} (hm : 0 ≤ m ∧ m < tM T) (c : Int) : sumI 288 (plC T m c) ≤ 132 ∧ ∀ s, 0 ≤ s → s < 288 → 0 ≤ plC T m c s ∧ plC T m c s ≤ 132 := by
  have hd := dor_in hT hm
  obtain ⟨l1, l2⟩ := wyL_ok hT hm
  have hE := (erd_n hT hm).1
  have h1 := manC_sum (ex := tEX T m) (ey := tEY T m) (c := c) (e := tE T m) (fun k z0 z1 => erd_in hT hm ⟨z0, z1⟩) (wyL T m) (tDX T m) (tDY T m) l2 hd.1 hd.2
  have h2 : sumI 288 (plC T m c) ≤ 132 := by
    show sumI 288 (fun s => manC (tEX T m) (tEY T m) c s (wyL T m) (tDX T m) (tDY T m)) ≤ 132
    omega
  refine ⟨h2, fun s z0 z1 => ?_⟩
  have h3 := sumI_pt (n := 288) (f := plC T m c) (fun k _ _ => manC_nn _ _ _ _ _ _ _) ⟨z0, z1⟩
  exact ⟨manC_nn _ _ _ _ _ _ _, by omega⟩
/-- how many times two lie on one another -/
def crF (T : Txt) (m c o e s : Int) : Int := plC T m c s * plC T o e s
def crR (T : Txt) (m c o e : Int) : Int := sumI 288 (crF T m c o e)
theorem crF_nn (T : Txt) (m c o e s : Int) : 0 ≤ crF T m c o e s := Int.mul_nonneg (manC_nn _ _ _ _ _ _ _) (manC_nn _ _ _ _ _ _ _)
theorem cr_bd (hT : TxtI T) {m o : Int} (hm : 0 ≤ m ∧ m < tM T) (ho : 0 ≤ o ∧ o < tM T) (c e : Int) {n : Int} (hn : 0 ≤ n ∧ n ≤ 288) : 0 ≤ sumI n (crF T m c o e) ∧ sumI n (crF T m c o e) ≤ 17424 := by
  obtain ⟨a1, a2⟩ := plC_bd hT hm c
  obtain ⟨b1, b2⟩ := plC_bd hT ho e
  have h1 := sumI_mono (f := crF T m c o e) hn.1 hn.2 (fun k _ _ => crF_nn _ _ _ _ _ _)
  have h2 : sumI 288 (crF T m c o e) ≤ sumI 288 (fun s => 132 * plC T o e s) := sumI_le (by omega) (fun k z0 z1 => Int.mul_le_mul_of_nonneg_right (a2 k z0 z1).2 (b2 k z0 z1).1)
  rw [sumI_smul] at h2
  have h3 : 0 ≤ sumI n (crF T m c o e) := by
    have := sumI_le (n := n) (f := fun _ => 0) (g := crF T m c o e) hn.1 (fun k _ _ => crF_nn _ _ _ _ _ _)
    have h4 := sumI_bd (n := n) (b := 0) (f := fun _ => (0 : Int)) hn.1 (fun k _ _ => by omega)
    omega
  exact ⟨h3, by omega⟩
def psF (T : Txt) (a m o : Int) : Int := if m < o then crR T m (bt a m) o (bt a o) else 0
def psR (T : Txt) (a : Int) : Int := sumI (tM T) (fun m => sumI (tM T) (psF T a m))
theorem psF_bd (hT : TxtI T) (a : Int) {m o : Int} (hm : 0 ≤ m ∧ m < tM T) (ho : 0 ≤ o ∧ o < tM T) : 0 ≤ psF T a m o ∧ psF T a m o ≤ 17424 := by
  unfold psF
  split
  · exact cr_bd hT hm ho _ _ ⟨by omega, by omega⟩
  · omega
theorem psI_bd (hT : TxtI T) (a : Int) {m : Int} (hm : 0 ≤ m ∧ m < tM T) {n : Int} (hn : 0 ≤ n ∧ n ≤ tM T) : 0 ≤ sumI n (psF T a m) ∧ sumI n (psF T a m) ≤ 121968 := by
  have h7 := hT.1
  have := sumI_bd (n := n) (b := 17424) (f := psF T a m) hn.1 (fun k z0 z1 => psF_bd hT a hm ⟨z0, by omega⟩)
  omega
theorem psR_bd (hT : TxtI T) (a : Int) {n : Int} (hn : 0 ≤ n ∧ n ≤ tM T) : 0 ≤ sumI n (fun m => sumI (tM T) (psF T a m)) ∧ sumI n (fun m => sumI (tM T) (psF T a m)) ≤ 853776 := by
  have h7 := hT.1
  have := sumI_bd (n := n) (b := 121968) (f := fun m => sumI (tM T) (psF T a m)) hn.1 (fun k z0 z1 => psI_bd hT a ⟨z0, by omega⟩ ⟨h7.1, by omega⟩)
  omega
theorem psI_0 (T : Txt) (a : Int) {m : Int} (hm : 0 ≤ m) : sumI (m + 1) (psF T a m) = 0 := by
  have := sumI_bd (n := m + 1) (b := 0) (f := psF T a m) (by omega) (fun k z0 z1 => by unfold psF; rw [if_neg (by omega)]; omega)
  omega
/-- the best of the first n choices: which, how it lies -/
def plI (T : Txt) : Nat → Int × Int
  | 0 => (0, -1)
  | n + 1 => if 0 ≤ (plI T n).2 ∧ (plI T n).2 ≤ psR T n then plI T n else ((n : Int), psR T n)
theorem plI_s {i : Int} (h : 0 ≤ i) : plI T (i + 1).toNat = if 0 ≤ (plI T i.toNat).2 ∧ (plI T i.toNat).2 ≤ psR T i then plI T i.toNat else (i, psR T i) := by
  rw [show (i + 1).toNat = i.toNat + 1 by omega]
  show (if 0 ≤ _ ∧ _ ≤ psR T (i.toNat : Nat) then _ else (((i.toNat : Nat) : Int), psR T (i.toNat : Nat))) = _
  rw [show ((i.toNat : Nat) : Int) = i by omega]
theorem plI_bd (hT : TxtI T) : ∀ n : Nat, (-1 ≤ (plI T n).2 ∧ (plI T n).2 ≤ 853776) ∧ (0 < n → 0 ≤ (plI T n).2)
  | 0 => ⟨⟨by show (-1 : Int) ≤ -1; decide, by show (-1 : Int) ≤ 853776; decide⟩, fun z => absurd z (Nat.lt_irrefl _)⟩
  | n + 1 => by
    have h0 := plI_bd hT n
    have h1 := psR_bd hT n (n := tM T) ⟨hT.1.1, by omega⟩
    have h2 : 0 ≤ psR T n ∧ psR T n ≤ 853776 := h1
    unfold plI
    split
    · exact ⟨h0.1, fun _ => by omega⟩
    · exact ⟨⟨by show -1 ≤ psR T n; omega, h2.2⟩, fun _ => h2.1⟩
def plainV (T : Txt) (w : Int) : Int := if 0 ≤ w ∧ w ≤ 1 then (if w = 0 then (plI T (bShl 1 (tM T)).toNat).2 else (plI T (bShl 1 (tM T)).toNat).1) else -1
/-- a leg that keeps within the plan -/
def legOk (w : Int) (n : Int) (x y : Int) : Prop := ((0 ≤ x ∧ x ≤ 11) ∧ (0 ≤ y ∧ y ≤ 11)) ∧ ((w = 2 ∧ x + n ≤ 11) ∨ (w = 4 ∧ n ≤ x) ∨ (w = 1 ∧ y + n ≤ 11) ∨ (w = 3 ∧ n ≤ y))
theorem legOk.st {w n x y : Int} (h : legOk w n x y) (hn : 1 ≤ n) : (0 ≤ stO x y w ∧ stO x y w < 288) ∧ legOk w (n - 1) (x + dX w) (y + dY w) := by
  obtain ⟨h1, h2⟩ := h
  unfold legOk
  rcases h2 with ⟨rfl, h2⟩ | ⟨rfl, h2⟩ | ⟨rfl, h2⟩ | ⟨rfl, h2⟩
  · have e1 : dX 2 = 1 := rfl
    have e2 : dY 2 = 0 := rfl
    unfold stO
    rw [e1, e2]
    refine ⟨?_, by omega⟩
    (repeat' split) <;> omega
  · have e1 : dX 4 = -1 := rfl
    have e2 : dY 4 = 0 := rfl
    unfold stO
    rw [e1, e2]
    refine ⟨?_, by omega⟩
    (repeat' split) <;> omega
  · have e1 : dX 1 = 0 := rfl
    have e2 : dY 1 = 1 := rfl
    unfold stO
    rw [e1, e2]
    refine ⟨?_, by omega⟩
    (repeat' split) <;> omega
  · have e1 : dX 3 = 0 := rfl
    have e2 : dY 3 = -1 := rfl
    unfold stO
    rw [e1, e2]
    refine ⟨?_, by omega⟩
    (repeat' split) <;> omega
end PLAINP
section PLAINC
variable {G : am_G} {d : Nat} {L : am_L} {h h' : am_H} {Q : am_O → am_L → am_H → Prop} {x o s t : Int} {T : Txt} {S : Row} {b q : Int}
set_option maxHeartbeats 4000000 in
theorem C_X0_goesLeg {R u v w n : Int} (kR : kd L R = 100) (lR : ln L R = 288) (hn : 0 ≤ n) (hb : ∀ s, 0 ≤ s → s < 288 → 0 ≤ h R s ∧ h R s ≤ 1000) (hl : legOk w n u v) (k : ∀ h', (∀ a, a ≠ R → h' a = h a) → (∀ s, 0 ≤ s → s < 288 → h' R s = h R s + lgC w s n.toNat u v) → Q (.inl []) L h') : am_C G mX0_goesLeg (d + 3) [aR x, aR R, aI u, aI v, aI w, aI n] L h Q := by
  have hw : rg32 w := by
    unfold legOk at hl
    exact ⟨by omega, by omega⟩
  have hn12 : n ≤ 11 := by unfold legOk at hl; omega
  refine x_start okX0_goesLeg rfl rfl rfl rfl ?_
  refine x_iload_2 dX0_goesLeg_0 ?_
  refine x_istore6 dX0_goesLeg_1 rfl ?_
  refine x_iload_3 dX0_goesLeg_3 ?_
  refine x_istore7 dX0_goesLeg_4 rfl ?_
  refine x_iconst dX0_goesLeg_6 ?_
  refine x_istore8 dX0_goesLeg_7 rfl ?_
  skip
  suffices H : ∀ (r : Nat) (i u2 v2 : Int) (hh : am_H), (r : Int) + i = n → 0 ≤ i → legOk w r u2 v2 → (∀ a, a ≠ R → hh a = h a) → (∀ s, 0 ≤ s → s < 288 → hh R s + lgC w s r u2 v2 = h R s + lgC w s n.toNat u v) → am_X G mX0_goesLeg (d + 3) 9 [aR x, aR R, aI u, aI v, aI w, aI n, aI u2, aI v2, aI i] [] L hh Q from H n.toNat 0 u v h (by omega) (by omega) (by rw [show ((n.toNat : Nat) : Int) = n by omega]; exact hl) (fun _ _ => rfl) (fun _ _ _ => rfl)
  intro r
  induction r with
  | zero =>
    intro i u2 v2 hh z1 z2 z3 z4 z5
    refine x_iload8 dX0_goesLeg_9 ?_
    refine x_iload5 dX0_goesLeg_11 ?_
    refine x_icmp_ge (tgt := 57) dX0_goesLeg_13 rfl (by omega) (by omega) (fun c13 => ?_) (fun c13 => ?_)
    · refine x_ret dX0_goesLeg_57 rfl ?_
      refine k hh z4 (fun s y0 y1 => ?_)
      have := z5 s y0 y1
      have e : lgC w s 0 u2 v2 = 0 := rfl
      omega
    · exfalso; omega
  | succ r ih =>
    intro i u2 v2 hh z1 z2 z3 z4 z5
    obtain ⟨st, lg⟩ := z3.st (by omega)
    have hb3 := z3.1
    have hz := z5 _ st.1 st.2
    have hz1 := hb _ st.1 st.2
    have hz2 := lgC_bd w (stO u2 v2 w) n.toNat u v
    have hz3 := lgC_bd w (stO u2 v2 w) (r + 1) u2 v2
    refine x_iload8 dX0_goesLeg_9 ?_
    refine x_iload5 dX0_goesLeg_11 ?_
    refine x_icmp_ge (tgt := 57) dX0_goesLeg_13 rfl (by omega) (by omega) (fun c13 => ?_) (fun c13 => ?_)
    · exfalso; omega
    · refine x_aload_1 dX0_goesLeg_16 ?_
      refine x_iload6 dX0_goesLeg_17 ?_
      refine x_iload7 dX0_goesLeg_19 ?_
      refine x_iload4 dX0_goesLeg_21 ?_
      refine x_callS3 dX0_goesLeg_23 rfl okX0_streetOf q1400 q1254 rfl (C_X0_streetOf (x := u2) (y := v2) hb3.1 hb3.2 hw (x_k1 ?_))
      refine x_dup2 dX0_goesLeg_26 rfl rfl ?_
      refine x_iald_ dX0_goesLeg_27 (by exact kR) (by exact ⟨st.1, by rw [lR]; exact st.2⟩) (fun r27 => ?_)
      refine x_iconst dX0_goesLeg_28 ?_
      refine x_iadd dX0_goesLeg_29 ?_
      refine x_iast_ dX0_goesLeg_30 (by exact kR) (by exact ⟨st.1, by rw [lR]; exact st.2⟩) (by omega) ?_
      refine x_iload6 dX0_goesLeg_31 ?_
      refine x_iload4 dX0_goesLeg_33 ?_
      refine x_callS1 dX0_goesLeg_35 rfl okX0_byX q1256 q1247 rfl (C_X0_byX hw (x_k1 ?_))
      refine x_iadd dX0_goesLeg_38 ?_
      refine x_istore6 dX0_goesLeg_39 rfl ?_
      refine x_iload7 dX0_goesLeg_41 ?_
      refine x_iload4 dX0_goesLeg_43 ?_
      refine x_callS1 dX0_goesLeg_45 rfl okX0_byY q1258 q1250 rfl (C_X0_byY hw (x_k1 ?_))
      refine x_iadd dX0_goesLeg_48 ?_
      refine x_istore7 dX0_goesLeg_49 rfl ?_
      refine x_iinc8 dX0_goesLeg_51 rfl ?_
      refine x_goto (tgt := 9) dX0_goesLeg_54 rfl ?_
      refine ih (i + 1) _ _ _ (by omega) (by omega) (by rw [show ((r + 1 : Nat) : Int) - 1 = (r : Int) by omega] at lg; exact lg) (fun a ha => by rw [am_st_o ha]; exact z4 a ha) (fun s y0 y1 => ?_)
      have := z5 s y0 y1
      have e : lgC w s (r + 1) u2 v2 = (if stO u2 v2 w = s then 1 else 0) + lgC w s r (u2 + dX w) (v2 + dY w) := rfl
      rw [am_st_at]
      by_cases es : s = stO u2 v2 w
      · rw [if_pos ⟨rfl, es⟩, ← es]
        rw [if_pos es.symm] at e
        omega
      · rw [if_neg (fun z => es z.2)]
        rw [if_neg (fun z => es z.symm)] at e
        omega
/-- nothing but left and one row was written -/
def FrQ (h h' : am_H) (x R : Int) : Prop := ∀ a, (a < x + 184 ∨ x + 248 ≤ a) → a ≠ R → h' a = h a
set_option maxHeartbeats 8000000 in
theorem C_X0_laysLegs {m c : Int} (hC : CoT L h x t T S) (hT : TxtI T) (hm : 0 ≤ m ∧ m < tM T) (hc : 0 ≤ c ∧ c < 2) (k : ∀ h', FrQ h h' x (x + 251 + 3 * m + c) → (∀ s, 0 ≤ s → s < 288 → h' (x + 251 + 3 * m + c) s = plC T m c s) → Q (.inl []) L h') : am_C G mX0_laysLegs (d + 10) [aR x, aI m, aI c] L h Q := by
  have hK := hC.mk
  have htx := hC.tx
  have hht := hC.ht
  have hM := hT.1
  have hma := htx.man hm.1 hm.2
  have hd := dor_in hT hm
  have hE := (erd_n hT hm).1
  obtain ⟨l1, l2⟩ := wyL_ok hT hm
  obtain ⟨-, pb⟩ := plC_bd hT hm c
  have kR := hK.kee_lies (k := m) (c := c) hm.1 (by omega) hc.1 hc.2
  have lR : ln L (x + 251 + 3 * m + c) = 288 := (hK.liesB m c hm.1 (by omega) hc.1 hc.2).2.2
  have fS : ∀ {hh : am_H}, FrQ h hh x (x + 251 + 3 * m + c) → FrS h hh x := fun {hh} z a i y => by rw [z a (by omega) (by omega)]
  refine x_start okX0_laysLegs rfl rfl rfl rfl ?_
  refine x_aload_0 dX0_laysLegs_0 ?_
  refine x_getW dX0_laysLegs_1 fl574_0 rfl (by first | (exact MkL.k0 (by assumption)) | (assumption)) (by assumption) ?_
  refine x_getR dX0_laysLegs_4 fl352_4 rfl (by first | (exact TxL.k0 (by assumption)) | (assumption)) (by first | (rfl) | (assumption)) ?_
  refine x_iload_1 dX0_laysLegs_7 ?_
  refine x_callV1 dX0_laysLegs_8 rfl okJ5_get q1204 q530 q531 (by first | assumption | (exact TxL.kl (by assumption))) am_k20 rfl (C_J5_get htx.ls hm (x_k1 ?_))
  refine x_cast dX0_laysLegs_11 q1205 (by first | assumption | (exact ManL.k0 (by assumption))) am_k14 ?_
  refine x_astore_3 dX0_laysLegs_14 rfl ?_
  refine x_aload_0 dX0_laysLegs_15 ?_
  refine x_getR dX0_laysLegs_16 fl590_0 rfl (by first | (exact MkL.k0 (by assumption)) | (assumption)) (by first | (exact MkL.v_lies (by assumption)) | (assumption)) ?_
  refine x_iload_1 dX0_laysLegs_19 ?_
  refine x_aald dX0_laysLegs_20 (by first | (exact MkL.k_lies (by assumption)) | (assumption)) (by decide) (by decide) (by exact hK.x_lies hm.1 (by omega)) (by exact hK.e_lies hm.1 (by omega)) ?_
  refine x_iload_2 dX0_laysLegs_21 ?_
  refine x_aald dX0_laysLegs_22 (by exact hK.ke_lies hm.1 (by omega)) (by decide) (by decide) (by exact hK.xe_lies hm.1 (by omega) hc.1 hc.2) (by exact hK.ee_lies hm.1 (by omega) hc.1 hc.2) ?_
  refine x_astore4 dX0_laysLegs_23 rfl ?_
  refine x_aload_3 dX0_laysLegs_25 ?_
  refine x_getKI dX0_laysLegs_26 fl990_14 (by first | (exact ManL.k0 (by assumption)) | (assumption)) (by first | (exact ManL.x (by assumption)) | (assumption)) (fun r26 => ?_)
  refine x_istore5 dX0_laysLegs_29 rfl ?_
  refine x_aload_3 dX0_laysLegs_31 ?_
  refine x_getKI dX0_laysLegs_32 fl993_14 (by first | (exact ManL.k0 (by assumption)) | (assumption)) (by first | (exact ManL.y (by assumption)) | (assumption)) (fun r32 => ?_)
  refine x_istore6 dX0_laysLegs_35 rfl ?_
  refine x_iconst dX0_laysLegs_37 ?_
  refine x_istore7 dX0_laysLegs_38 rfl ?_
  generalize hR : x + 251 + 3 * m + c = R at kR lR fS k
  refine x_forA 288 (fun i hh (w : AV) => (∀ a, a ≠ R → hh a = h a) ∧ ∀ s, 0 ≤ s → s < i → hh R s = 0) (fun i hh w => am_X G mX0_laysLegs (d + 10) 40 [aR x, aI m, aI c, aR (manA L t m), aR R, aI (tDX T m), aI (tDY T m), aI i, w, aU, aU] [] L hh Q) (fun i hh w g0 g1 hP ih => ?_) h aU (by omega) ⟨fun _ _ => rfl, fun s z0 z1 => by omega⟩
  obtain ⟨p1, p2⟩ := hP
  refine x_iload7 dX0_laysLegs_40 ?_
  refine x_sipush dX0_laysLegs_42 rfl ?_
  refine x_icmp_ge (tgt := 60) dX0_laysLegs_45 rfl (by omega) (by omega) (fun c45 => ?_) (fun c45 => ?_)
  · refine x_iconst dX0_laysLegs_60 ?_
    refine x_istore7 dX0_laysLegs_61 rfl ?_
    have ei : i = 288 := by omega
    rw [ei] at p2
    suffices H : ∀ (r : List Int) (j : Nat) (u v : Int) (h2 : am_H) (w8 w9 w10 : AV), (wyL T m).drop j = r → j + r.length = (wyL T m).length → (0 ≤ u ∧ u ≤ 11) → (0 ≤ v ∧ v ≤ 11) → FrQ h h2 x R → (∀ s, 0 ≤ s → s < 288 → 0 ≤ h2 R s ∧ h2 R s + manC (tEX T m) (tEY T m) c s r u v = plC T m c s) → am_X G mX0_laysLegs (d + 10) 63 [aR x, aI m, aI c, aR (manA L t m), aR R, aI u, aI v, aI (j : Int), w8, w9, w10] [] L h2 Q from H (wyL T m) 0 _ _ hh _ _ _ rfl (by omega) hd.1 hd.2 (fun a _ z => p1 a z) (fun s z0 z1 => by rw [p2 s z0 z1]; exact ⟨Int.le_refl _, Int.zero_add _⟩)
    intro r
    induction r with
    | nil =>
      intro j u v h2 w8 w9 w10 z1 z2 z3 z4 z5 z6
      have z2' : j = (wyL T m).length := z2
      refine x_iload7 dX0_laysLegs_63 ?_
      refine x_aload_3 dX0_laysLegs_65 ?_
      refine x_getKI dX0_laysLegs_66 fl995_14 (by first | (exact ManL.k0 (by assumption)) | (assumption)) (by first | (exact ManL.errands (by assumption)) | (assumption)) (fun r66 => ?_)
      refine x_icmp_ge (tgt := 191) dX0_laysLegs_69 rfl (by omega) (by omega) (fun c69 => ?_) (fun c69 => ?_)
      · refine x_ret dX0_laysLegs_191 rfl ?_
        refine k h2 z5 (fun s y0 y1 => ?_)
        have := (z6 s y0 y1).2
        have e : manC (tEX T m) (tEY T m) c s [] u v = 0 := rfl
        omega
      · exfalso; omega
    | cons y r ihr =>
      intro j u v h2 w8 w9 w10 z1 z2 z3 z4 z5 z6
      have z2' : j + r.length + 1 = (wyL T m).length := by rw [← z2, List.length_cons]; omega
      have hj : j < (wyL T m).length := by omega
      have hy : (wyL T m).getD j 0 = y := by
        rw [List.getD_eq_getElem?_getD]
        have := List.getElem?_drop (xs := wyL T m) (i := j) (j := 0)
        rw [z1] at this
        rw [Nat.add_zero] at this
        rw [← this]
        rfl
      have hdr : (wyL T m).drop (j + 1) = r := by
        have := congrArg (List.drop 1) z1
        rw [List.drop_drop] at this
        exact this
      have hym : 0 ≤ y ∧ y < tE T m := l2 y (by
        have : y ∈ (wyL T m).drop j := by rw [z1]; exact List.mem_cons_self ..
        exact List.mem_of_mem_drop this)
      obtain ⟨bx, by_⟩ := erd_in hT hm hym
      have hC2 := hC.fr (fS z5)
      refine x_iload7 dX0_laysLegs_63 ?_
      refine x_aload_3 dX0_laysLegs_65 ?_
      refine x_getKI dX0_laysLegs_66 fl995_14 (by first | (exact ManL.k0 (by assumption)) | (assumption)) (by first | (exact ManL.errands (by assumption)) | (assumption)) (fun r66 => ?_)
      refine x_icmp_ge (tgt := 191) dX0_laysLegs_69 rfl (by omega) (by omega) (fun c69 => ?_) (fun c69 => ?_)
      · exfalso; omega
      · refine x_aload_0 dX0_laysLegs_72 ?_
        refine x_iload_1 dX0_laysLegs_73 ?_
        refine x_iload7 dX0_laysLegs_74 ?_
        refine x_callV2 dX0_laysLegs_76 rfl okX0_wayAt q1507 q1367 q1368 (by first | assumption | (exact MkL.k0 (by assumption))) am_k0 rfl (C_wayAt hC2 hT hm ⟨by omega, by omega⟩ (fun h3 f3 => (x_k1 ?_)))
        rw [show ((wyR T m (tDX T m) (tDY T m)).2.getD (Int.toNat ((j : Nat) : Int)) 0) = y from hy]
        have z5' : FrQ h h3 x R := fun a y0 y1 => by rw [f3 a y0]; exact z5 a y0 y1
        have e3R : h3 R = h2 R := f3 R (by omega)
        refine x_istore8 dX0_laysLegs_79 rfl ?_
        refine x_aload_3 dX0_laysLegs_81 ?_
        refine x_getR dX0_laysLegs_82 fl984_14 rfl (by first | (exact ManL.k0 (by assumption)) | (assumption)) (by first | (rfl) | (assumption)) ?_
        refine x_iload8 dX0_laysLegs_85 ?_
        refine x_sld_ dX0_laysLegs_87 (by first | (exact ManL.kex (by assumption)) | (assumption)) (by first | (exact ManL.xex (by assumption) (by omega) (by omega)) | (omega)) (fun r87 => ?_)
        simp (disch := omega) only [(hma.ex hym.1 hym.2)] at r87 ⊢
        refine x_istore9 dX0_laysLegs_88 rfl ?_
        refine x_aload_3 dX0_laysLegs_90 ?_
        refine x_getR dX0_laysLegs_91 fl987_14 rfl (by first | (exact ManL.k0 (by assumption)) | (assumption)) (by first | (rfl) | (assumption)) ?_
        refine x_iload8 dX0_laysLegs_94 ?_
        refine x_sld_ dX0_laysLegs_96 (by first | (exact ManL.key (by assumption)) | (assumption)) (by first | (exact ManL.xey (by assumption) (by omega) (by omega)) | (omega)) (fun r96 => ?_)
        simp (disch := omega) only [(hma.ey hym.1 hym.2)] at r96 ⊢
        refine x_istore10 dX0_laysLegs_97 rfl ?_
        have mC : ∀ s, manC (tEX T m) (tEY T m) c s (y :: r) u v = (lgC (if u < tEX T m y then 2 else 4) s (apa u (tEX T m y)).toNat u (if c = 0 then v else tEY T m y) + lgC (if v < tEY T m y then 1 else 3) s (apa v (tEY T m y)).toNat (if c = 0 then tEX T m y else u) v) + manC (tEX T m) (tEY T m) c s r (tEX T m y) (tEY T m y) := fun s => rfl
        have nx := fun h5 w8 w9 w10 => ihr (j + 1) (tEX T m y) (tEY T m y) h5 w8 w9 w10 hdr (by omega) bx by_
        generalize tEX T m y = eu at bx mC nx ⊢
        generalize tEY T m y = ev at by_ mC nx ⊢
        have mN := fun s => manC_nn (tEX T m) (tEY T m) c s r eu ev
        have B : ∀ (h4 : am_H) (x5 w5 : Int), FrQ h h4 x R → (∀ s, 0 ≤ s → s < 288 → 0 ≤ h4 R s ∧ h4 R s + (lgC (if v < ev then 1 else 3) s (apa v ev).toNat (if c = 0 then eu else u) v + manC (tEX T m) (tEY T m) c s r eu ev) = plC T m c s) → x5 = (if c = 0 then eu else u) → w5 = (if v < ev then 1 else 3) → am_X G mX0_laysLegs (d + 10) 166 [aR x, aI m, aI c, aR (manA L t m), aR R, aI u, aI v, aI (j : Int), aI y, aI eu, aI ev] [aI w5, aI v, aI x5, aR R, aR x] L h4 Q := by
          intro h4 x5 w5 q1 q2 q3 q4
          have ab : (if 0 ≤ ev - v then ev - v else 0 - (ev - v)) = apa v ev := by
            unfold apa
            (repeat' split) <;> omega
          have an := apa_nn v ev
          have lg : legOk w5 (apa v ev) x5 v := by
            rw [q3, q4]
            unfold legOk apa
            (repeat' split) <;> omega
          have hb4 : ∀ s, 0 ≤ s → s < 288 → 0 ≤ h4 R s ∧ h4 R s ≤ 1000 := fun s y0 y1 => by
            have g1 := q2 s y0 y1
            have g2 := (lgC_bd (if v < ev then 1 else 3) s (apa v ev).toNat (if c = 0 then eu else u) v).1
            have g3 := mN s
            have g4 := pb s y0 y1
            omega
          refine x_iload10 dX0_laysLegs_166 ?_
          refine x_iload6 dX0_laysLegs_168 ?_
          refine x_isub dX0_laysLegs_170 ?_
          refine x_mabs dX0_laysLegs_171 q1210 q1211 q135 q1212 rfl (by omega) ?_
          rw [ab]
          refine x_callV5 dX0_laysLegs_174 rfl okX0_goesLeg q1508 q1510 qs49 (by first | assumption | (exact MkL.k0 (by assumption))) am_k0 rfl (C_X0_goesLeg kR lR an hb4 lg (fun h5 f5 r5 => (x_k0 ?_)))
          refine x_iload9 dX0_laysLegs_177 ?_
          refine x_istore5 dX0_laysLegs_179 rfl ?_
          refine x_iload10 dX0_laysLegs_181 ?_
          refine x_istore6 dX0_laysLegs_183 rfl ?_
          refine x_iinc7 dX0_laysLegs_185 rfl ?_
          refine x_goto (tgt := 63) dX0_laysLegs_188 rfl ?_
          refine nx h5 _ _ _ (fun a y0 y1 => by rw [f5 a y1]; exact q1 a y0 y1) (fun s y0 y1 => ?_)
          have g1 := q2 s y0 y1
          have g2 := lgC_bd (if v < ev then 1 else 3) s (apa v ev).toNat (if c = 0 then eu else u) v
          rw [r5 s y0 y1, q3, q4]
          omega
        have A : ∀ (x4 w4 : Int), x4 = (if c = 0 then v else ev) → w4 = (if u < eu then 2 else 4) → am_X G mX0_laysLegs (d + 10) 127 [aR x, aI m, aI c, aR (manA L t m), aR R, aI u, aI v, aI (j : Int), aI y, aI eu, aI ev] [aI w4, aI x4, aI u, aR R, aR x] L h3 Q := by
          intro x4 w4 q3 q4
          have ab : (if 0 ≤ eu - u then eu - u else 0 - (eu - u)) = apa u eu := by
            unfold apa
            (repeat' split) <;> omega
          have an := apa_nn u eu
          have lg : legOk w4 (apa u eu) u x4 := by
            rw [q3, q4]
            unfold legOk apa
            (repeat' split) <;> omega
          have hb3 : ∀ s, 0 ≤ s → s < 288 → 0 ≤ h3 R s ∧ h3 R s ≤ 1000 := fun s y0 y1 => by
            have g1 := z6 s y0 y1
            have g2 := manC_nn (tEX T m) (tEY T m) c s (y :: r) u v
            have g4 := pb s y0 y1
            rw [e3R]
            omega
          refine x_iload9 dX0_laysLegs_127 ?_
          refine x_iload5 dX0_laysLegs_129 ?_
          refine x_isub dX0_laysLegs_131 ?_
          refine x_mabs dX0_laysLegs_132 q1210 q1211 q135 q1212 rfl (by omega) ?_
          rw [ab]
          refine x_callV5 dX0_laysLegs_135 rfl okX0_goesLeg q1508 q1510 qs49 (by first | assumption | (exact MkL.k0 (by assumption))) am_k0 rfl (C_X0_goesLeg kR lR an hb3 lg (fun h4 f4 r4 => (x_k0 ?_)))
          have q1' : FrQ h h4 x R := fun a y0 y1 => by rw [f4 a y1]; exact z5' a y0 y1
          have q2' : ∀ s, 0 ≤ s → s < 288 → 0 ≤ h4 R s ∧ h4 R s + (lgC (if v < ev then 1 else 3) s (apa v ev).toNat (if c = 0 then eu else u) v + manC (tEX T m) (tEY T m) c s r eu ev) = plC T m c s := fun s y0 y1 => by
            have g1 := z6 s y0 y1
            have g2 := lgC_bd (if u < eu then 2 else 4) s (apa u eu).toNat u (if c = 0 then v else ev)
            have g3 := mC s
            rw [r4 s y0 y1, e3R, q3, q4]
            omega
          refine x_aload_0 dX0_laysLegs_138 ?_
          refine x_aload4 dX0_laysLegs_139 ?_
          refine x_iload_2 dX0_laysLegs_141 ?_
          refine x_if_ne (tgt := 150) dX0_laysLegs_142 rfl (by omega) (fun c142 => ?_) (fun c142 => ?_)
          · refine x_iload5 dX0_laysLegs_150 ?_
            refine x_iload6 dX0_laysLegs_152 ?_
            refine x_iload10 dX0_laysLegs_154 ?_
            refine x_iload6 dX0_laysLegs_156 ?_
            refine x_icmp_le (tgt := 165) dX0_laysLegs_158 rfl (by omega) (by omega) (fun c158 => ?_) (fun c158 => ?_)
            · refine x_iconst dX0_laysLegs_165 ?_
              exact B _ _ _ q1' q2' (by first | (rw [if_pos (by omega)]; done) | (rw [if_neg (by omega)]; done)) (by first | (rw [if_pos (by omega)]; done) | (rw [if_neg (by omega)]; done))
            · refine x_iconst dX0_laysLegs_161 ?_
              refine x_goto (tgt := 166) dX0_laysLegs_162 rfl ?_
              exact B _ _ _ q1' q2' (by first | (rw [if_pos (by omega)]; done) | (rw [if_neg (by omega)]; done)) (by first | (rw [if_pos (by omega)]; done) | (rw [if_neg (by omega)]; done))
          · refine x_iload9 dX0_laysLegs_145 ?_
            refine x_goto (tgt := 152) dX0_laysLegs_147 rfl ?_
            refine x_iload6 dX0_laysLegs_152 ?_
            refine x_iload10 dX0_laysLegs_154 ?_
            refine x_iload6 dX0_laysLegs_156 ?_
            refine x_icmp_le (tgt := 165) dX0_laysLegs_158 rfl (by omega) (by omega) (fun c158 => ?_) (fun c158 => ?_)
            · refine x_iconst dX0_laysLegs_165 ?_
              exact B _ _ _ q1' q2' (by first | (rw [if_pos (by omega)]; done) | (rw [if_neg (by omega)]; done)) (by first | (rw [if_pos (by omega)]; done) | (rw [if_neg (by omega)]; done))
            · refine x_iconst dX0_laysLegs_161 ?_
              refine x_goto (tgt := 166) dX0_laysLegs_162 rfl ?_
              exact B _ _ _ q1' q2' (by first | (rw [if_pos (by omega)]; done) | (rw [if_neg (by omega)]; done)) (by first | (rw [if_pos (by omega)]; done) | (rw [if_neg (by omega)]; done))
        refine x_aload_0 dX0_laysLegs_99 ?_
        refine x_aload4 dX0_laysLegs_100 ?_
        refine x_iload5 dX0_laysLegs_102 ?_
        refine x_iload_2 dX0_laysLegs_104 ?_
        refine x_if_ne (tgt := 113) dX0_laysLegs_105 rfl (by omega) (fun c105 => ?_) (fun c105 => ?_)
        · refine x_iload10 dX0_laysLegs_113 ?_
          refine x_iload9 dX0_laysLegs_115 ?_
          refine x_iload5 dX0_laysLegs_117 ?_
          refine x_icmp_le (tgt := 126) dX0_laysLegs_119 rfl (by omega) (by omega) (fun c119 => ?_) (fun c119 => ?_)
          · refine x_iconst dX0_laysLegs_126 ?_
            exact A _ _ (by first | (rw [if_pos (by omega)]; done) | (rw [if_neg (by omega)]; done)) (by first | (rw [if_pos (by omega)]; done) | (rw [if_neg (by omega)]; done))
          · refine x_iconst dX0_laysLegs_122 ?_
            refine x_goto (tgt := 127) dX0_laysLegs_123 rfl ?_
            exact A _ _ (by first | (rw [if_pos (by omega)]; done) | (rw [if_neg (by omega)]; done)) (by first | (rw [if_pos (by omega)]; done) | (rw [if_neg (by omega)]; done))
        · refine x_iload6 dX0_laysLegs_108 ?_
          refine x_goto (tgt := 115) dX0_laysLegs_110 rfl ?_
          refine x_iload9 dX0_laysLegs_115 ?_
          refine x_iload5 dX0_laysLegs_117 ?_
          refine x_icmp_le (tgt := 126) dX0_laysLegs_119 rfl (by omega) (by omega) (fun c119 => ?_) (fun c119 => ?_)
          · refine x_iconst dX0_laysLegs_126 ?_
            exact A _ _ (by first | (rw [if_pos (by omega)]; done) | (rw [if_neg (by omega)]; done)) (by first | (rw [if_pos (by omega)]; done) | (rw [if_neg (by omega)]; done))
          · refine x_iconst dX0_laysLegs_122 ?_
            refine x_goto (tgt := 127) dX0_laysLegs_123 rfl ?_
            exact A _ _ (by first | (rw [if_pos (by omega)]; done) | (rw [if_neg (by omega)]; done)) (by first | (rw [if_pos (by omega)]; done) | (rw [if_neg (by omega)]; done))
  · refine x_aload4 dX0_laysLegs_48 ?_
    refine x_iload7 dX0_laysLegs_50 ?_
    refine x_iconst dX0_laysLegs_52 ?_
    refine x_iast_ dX0_laysLegs_53 (by exact kR) (by exact ⟨g0, by rw [lR]; omega⟩) (by omega) ?_
    refine x_iinc7 dX0_laysLegs_54 rfl ?_
    refine x_goto (tgt := 40) dX0_laysLegs_57 rfl ?_
    refine ih _ _ (by omega) ⟨fun a ha => by rw [am_st_o ha]; exact p1 a ha, fun s z0 z1 => ?_⟩
    rw [am_st_at]
    by_cases e : s = i
    · rw [if_pos ⟨rfl, e⟩]
    · rw [if_neg (fun z => e z.2)]
      exact p2 s z0 (by omega)
/-- the rows of the first n men -/
def liesP (T : Txt) (h : am_H) (x n : Int) : Prop := ∀ m c s, 0 ≤ m → m < n → 0 ≤ c → c < 2 → 0 ≤ s → s < 288 → h (x + 251 + 3 * m + c) s = plC T m c s
set_option maxHeartbeats 4000000 in
theorem C_X0_lieTogether {m c n e : Int} (hK : MkL L x) (hT : TxtI T) (hm : 0 ≤ m ∧ m < tM T) (hn : 0 ≤ n ∧ n < tM T) (hc : 0 ≤ c ∧ c < 2) (he : 0 ≤ e ∧ e < 2) (hl : liesP T h x (tM T)) (k : Q (.inl [aI (crR T m c n e)]) L h) : am_C G mX0_lieTogether (d + 1) [aR x, aI m, aI c, aI n, aI e] L h Q := by
  have h7 := hT.1
  refine x_start okX0_lieTogether rfl rfl rfl rfl ?_
  refine x_iconst dX0_lieTogether_0 ?_
  refine x_istore5 dX0_lieTogether_1 rfl ?_
  refine x_iconst dX0_lieTogether_3 ?_
  refine x_istore6 dX0_lieTogether_4 rfl ?_
  skip
  refine x_up0 288 (fun i => 0 ≤ i → i ≤ 288 → am_X G mX0_lieTogether (d + 1) 6 [aR x, aI m, aI c, aI n, aI e, aI (sumI i (crF T m c n e)), aI i] [] L h Q) (fun i ih g0 g1 => ?_) 0 (by omega) (by omega)
  refine x_iload6 dX0_lieTogether_6 ?_
  refine x_sipush dX0_lieTogether_8 rfl ?_
  refine x_icmp_ge (tgt := 49) dX0_lieTogether_11 rfl (by omega) (by omega) (fun c11 => ?_) (fun c11 => ?_)
  · refine x_iload5 dX0_lieTogether_49 ?_
    refine x_iret dX0_lieTogether_51 rfl ?_
    rw [show i = 288 by omega]
    exact k
  · refine x_iload5 dX0_lieTogether_14 ?_
    refine x_aload_0 dX0_lieTogether_16 ?_
    refine x_getR dX0_lieTogether_17 fl590_0 rfl (by first | (exact MkL.k0 (by assumption)) | (assumption)) (by first | (exact MkL.v_lies (by assumption)) | (assumption)) ?_
    refine x_iload_1 dX0_lieTogether_20 ?_
    refine x_aald dX0_lieTogether_21 (by first | (exact MkL.k_lies (by assumption)) | (assumption)) (by decide) (by decide) (by exact hK.x_lies hm.1 (by omega)) (by exact hK.e_lies hm.1 (by omega)) ?_
    refine x_iload_2 dX0_lieTogether_22 ?_
    refine x_aald dX0_lieTogether_23 (by exact hK.ke_lies hm.1 (by omega)) (by decide) (by decide) (by exact hK.xe_lies hm.1 (by omega) hc.1 hc.2) (by exact hK.ee_lies hm.1 (by omega) hc.1 hc.2) ?_
    refine x_iload6 dX0_lieTogether_24 ?_
    refine x_iald_ dX0_lieTogether_26 (by exact hK.kee_lies hm.1 (by omega) hc.1 hc.2) (by exact hK.xee_lies hm.1 (by omega) hc.1 hc.2 g0 (by omega)) (fun r26 => ?_)
    rw [hl m c i hm.1 hm.2 hc.1 hc.2 g0 (by omega)]
    refine x_aload_0 dX0_lieTogether_27 ?_
    refine x_getR dX0_lieTogether_28 fl590_0 rfl (by first | (exact MkL.k0 (by assumption)) | (assumption)) (by first | (exact MkL.v_lies (by assumption)) | (assumption)) ?_
    refine x_iload_3 dX0_lieTogether_31 ?_
    refine x_aald dX0_lieTogether_32 (by first | (exact MkL.k_lies (by assumption)) | (assumption)) (by decide) (by decide) (by exact hK.x_lies hn.1 (by omega)) (by exact hK.e_lies hn.1 (by omega)) ?_
    refine x_iload4 dX0_lieTogether_33 ?_
    refine x_aald dX0_lieTogether_35 (by exact hK.ke_lies hn.1 (by omega)) (by decide) (by decide) (by exact hK.xe_lies hn.1 (by omega) he.1 he.2) (by exact hK.ee_lies hn.1 (by omega) he.1 he.2) ?_
    refine x_iload6 dX0_lieTogether_36 ?_
    refine x_iald_ dX0_lieTogether_38 (by exact hK.kee_lies hn.1 (by omega) he.1 he.2) (by exact hK.xee_lies hn.1 (by omega) he.1 he.2 g0 (by omega)) (fun r38 => ?_)
    rw [hl n e i hn.1 hn.2 he.1 he.2 g0 (by omega)]
    refine x_imul dX0_lieTogether_39 ?_
    refine x_iadd dX0_lieTogether_40 ?_
    refine x_istore5 dX0_lieTogether_41 rfl ?_
    refine x_iinc6 dX0_lieTogether_43 rfl ?_
    refine x_goto (tgt := 6) dX0_lieTogether_46 rfl ?_
    have := ih (by omega) (by omega) (by omega)
    rw [sumI_s _ g0] at this
    exact this
set_option maxHeartbeats 8000000 in
theorem C_X0_plain {w : Int} (hC : CoT L h x t T S) (hT : TxtI T) (hw : rg32 w) (k : ∀ h', FrS h h' x → Q (.inl [aI (plainV T w)]) L h') : am_C G mX0_plain (d + 430) [aR x, aI w] L h Q := by
  have hK := hC.mk
  have hM := hT.1
  have pwb := pw_bd (n := tM T) ⟨hM.1, by omega⟩
  have fQ : ∀ {h1 hh : am_H} {m c : Int}, (0 ≤ m ∧ m < tM T) → (0 ≤ c ∧ c < 2) → FrQ h1 hh x (x + 251 + 3 * m + c) → FrS h1 hh x := fun {h1 hh m c} z1 z2 z a i y => by rw [z a (by omega) (by omega)]
  refine x_start okX0_plain rfl rfl rfl rfl ?_
  refine x_iload_1 dX0_plain_0 ?_
  refine x_iconst dX0_plain_1 ?_
  refine x_iconst dX0_plain_2 ?_
  refine x_callS3 dX0_plain_3 rfl okX0_isIn q1201 q1202 rfl (C_X0_isIn hw ⟨by decide, by decide⟩ ⟨by decide, by decide⟩ (x_k1 ?_))
  refine x_if_ne (tgt := 11) dX0_plain_6 rfl (by split <;> omega) (fun c6 => ?_) (fun c6 => ?_)
  · refine x_iconst dX0_plain_11 ?_
    refine x_istore_2 dX0_plain_12 rfl ?_
    refine x_ldcw (n := 1000000) dX0_plain_13 q1358 ?_
    refine x_istore_3 dX0_plain_16 rfl ?_
    refine x_iconst dX0_plain_17 ?_
    refine x_istore4 dX0_plain_18 rfl ?_
    have hw1 : 0 ≤ w ∧ w ≤ 1 := by split at c6 <;> first | assumption | omega
    refine x_forA (tM T) (fun i hh (w5 : AV) => FrS h hh x ∧ liesP T hh x i) (fun i hh w5 => am_X G mX0_plain (d + 430) 20 [aR x, aI w, aI 0, aI 1000000, aI i, w5, aU, aU] [] L hh Q) (fun i hh w5 g0 g1 hP ih => ?_) h aU hM.1 ⟨FrS.rf h x, fun m c s z0 z1 => by omega⟩
    obtain ⟨p1, p2⟩ := hP
    have hC1 := hC.fr p1
    refine x_iload4 dX0_plain_20 ?_
    refine x_aload_0 dX0_plain_22 ?_
    refine x_callV0 dX0_plain_23 rfl okX0_men q1196 q1198 qs33 (by first | assumption | (exact MkL.k0 (by assumption))) am_k0 rfl (C_X0_men hC1 (x_k1 ?_))
    refine x_icmp_ge (tgt := 58) dX0_plain_26 rfl (by omega) (by omega) (fun c26 => ?_) (fun c26 => ?_)
    · have ei : i = tM T := by omega
      rw [ei] at p2
      refine x_iconst dX0_plain_58 ?_
      refine x_istore4 dX0_plain_59 rfl ?_
      refine x_up3 (bShl 1 (tM T)) (fun a w5 w6 w7 => 0 ≤ a → a ≤ bShl 1 (tM T) → am_X G mX0_plain (d + 430) 61 [aR x, aI w, aI (plI T a.toNat).1, aI (if (plI T a.toNat).2 < 0 then 1000000 else (plI T a.toNat).2), aI a, w5, w6, w7] [] L hh Q) (fun a w5 w6 w7 ihs y0 y1 => ?_) 0 _ _ _ (by omega) (by omega)
      have pl := (plI_bd hT a.toNat).1
      have psb : 0 ≤ psR T a ∧ psR T a ≤ 853776 := psR_bd hT a (n := tM T) ⟨hM.1, by omega⟩
      have nxt : ∀ u v w5 w6 w7, a < bShl 1 (tM T) → (u = (if 0 ≤ (plI T a.toNat).2 ∧ (plI T a.toNat).2 ≤ psR T a then plI T a.toNat else (a, psR T a)).1) → v = (if (if 0 ≤ (plI T a.toNat).2 ∧ (plI T a.toNat).2 ≤ psR T a then plI T a.toNat else (a, psR T a)).2 < 0 then 1000000 else (if 0 ≤ (plI T a.toNat).2 ∧ (plI T a.toNat).2 ≤ psR T a then plI T a.toNat else (a, psR T a)).2) → am_X G mX0_plain (d + 430) 61 [aR x, aI w, aI u, aI v, aI (a + 1), w5, w6, w7] [] L hh Q := fun u v w5 w6 w7 z e e' => by
        have := ihs z w5 w6 w7 (by omega) (by omega)
        rw [plI_s y0, ← e, ← e'] at this
        exact this
      refine x_iload4 dX0_plain_61 ?_
      refine x_iconst dX0_plain_63 ?_
      refine x_aload_0 dX0_plain_64 ?_
      refine x_callV0 dX0_plain_65 rfl okX0_men q1196 q1198 qs33 (by first | assumption | (exact MkL.k0 (by assumption))) am_k0 rfl (C_X0_men hC1 (x_k1 ?_))
      refine x_ishl dX0_plain_68 ?_
      refine x_icmp_ge (tgt := 162) dX0_plain_69 rfl (by omega) (by omega) (fun c69 => ?_) (fun c69 => ?_)
      · have ea : a = bShl 1 (tM T) := by omega
        have pl2 := (plI_bd hT a.toNat).2 (by omega)
        rw [if_neg (show ¬ (plI T a.toNat).2 < 0 by omega), ea]
        refine x_iload_1 dX0_plain_162 ?_
        refine x_if_ne (tgt := 170) dX0_plain_163 rfl (by omega) (fun c163 => ?_) (fun c163 => ?_)
        · refine x_iload_2 dX0_plain_170 ?_
          refine x_iret dX0_plain_171 rfl ?_
          refine x_q1 ?_ (k hh p1)
          unfold plainV
          rw [if_pos hw1]
          first
          | (rw [if_pos (by omega)]; done)
          | (rw [if_neg (by omega)]; done)
        · refine x_iload_3 dX0_plain_166 ?_
          refine x_goto (tgt := 171) dX0_plain_167 rfl ?_
          refine x_iret dX0_plain_171 rfl ?_
          refine x_q1 ?_ (k hh p1)
          unfold plainV
          rw [if_pos hw1]
          first
          | (rw [if_pos (by omega)]; done)
          | (rw [if_neg (by omega)]; done)
      · refine x_iconst dX0_plain_72 ?_
        refine x_istore5 dX0_plain_73 rfl ?_
        refine x_iconst dX0_plain_75 ?_
        refine x_istore6 dX0_plain_76 rfl ?_
        have ha : a < bShl 1 (tM T) := by omega
        refine x_up2 (tM T) (fun m n w7 => 0 ≤ m → m ≤ tM T → n = sumI m (fun m => sumI (tM T) (psF T a m)) → am_X G mX0_plain (d + 430) 78 [aR x, aI w, aI (plI T a.toNat).1, aI (if (plI T a.toNat).2 < 0 then 1000000 else (plI T a.toNat).2), aI a, aI n, aI m, w7] [] L hh Q) (fun m n w7 ihm x0 x1 en => ?_) 0 0 _ (by omega) hM.1 rfl
        refine x_iload6 dX0_plain_78 ?_
        refine x_aload_0 dX0_plain_80 ?_
        refine x_callV0 dX0_plain_81 rfl okX0_men q1196 q1198 qs33 (by first | assumption | (exact MkL.k0 (by assumption))) am_k0 rfl (C_X0_men hC1 (x_k1 ?_))
        refine x_icmp_ge (tgt := 141) dX0_plain_84 rfl (by omega) (by omega) (fun c84 => ?_) (fun c84 => ?_)
        · have em : m = tM T := by omega
          have en2 : n = psR T a := by rw [en, em]; rfl
          rw [en2]
          have b144 : -2147483648 ≤ (if (plI T a.toNat).2 < 0 then 1000000 else (plI T a.toNat).2) ∧ (if (plI T a.toNat).2 < 0 then 1000000 else (plI T a.toNat).2) ≤ 2147483647 := by split <;> omega
          by_cases ek : 0 ≤ (plI T a.toNat).2 ∧ (plI T a.toNat).2 ≤ psR T a
          · rw [if_pos ek] at nxt
            have nx2 := fun w5 w6 w7 => nxt _ _ w5 w6 w7 ha rfl rfl
            rw [if_neg (show ¬ (plI T a.toNat).2 < 0 by omega)] at b144 nx2 ⊢
            refine x_iload5 dX0_plain_141 ?_
            refine x_iload_3 dX0_plain_143 ?_
            refine x_icmp_lt (tgt := 150) dX0_plain_144 rfl (by omega) (by omega) (fun c144 => ?_) (fun c144 => ?_)
            · exfalso; omega
            · refine x_goto (tgt := 156) dX0_plain_147 rfl ?_
              refine x_iinc4 dX0_plain_156 rfl ?_
              refine x_goto (tgt := 61) dX0_plain_159 rfl ?_
              exact nx2 _ _ _
          · rw [if_neg ek] at nxt
            have nx2 := fun w5 w6 w7 => nxt a (psR T a) w5 w6 w7 ha rfl (by rw [if_neg (show ¬ (a, psR T a).2 < 0 by show ¬ psR T a < 0; omega)])
            have hlt : psR T a < (if (plI T a.toNat).2 < 0 then 1000000 else (plI T a.toNat).2) := by split <;> omega
            generalize (if (plI T a.toNat).2 < 0 then 1000000 else (plI T a.toNat).2) = ls at b144 hlt ⊢
            refine x_iload5 dX0_plain_141 ?_
            refine x_iload_3 dX0_plain_143 ?_
            refine x_icmp_lt (tgt := 150) dX0_plain_144 rfl (by omega) (by omega) (fun c144 => ?_) (fun c144 => ?_)
            · refine x_iload4 dX0_plain_150 ?_
              refine x_istore_2 dX0_plain_152 rfl ?_
              refine x_iload5 dX0_plain_153 ?_
              refine x_istore_3 dX0_plain_155 rfl ?_
              refine x_iinc4 dX0_plain_156 rfl ?_
              refine x_goto (tgt := 61) dX0_plain_159 rfl ?_
              exact nx2 _ _ _
            · exfalso; omega
        · refine x_iload6 dX0_plain_87 ?_
          refine x_iconst dX0_plain_89 ?_
          refine x_iadd dX0_plain_90 ?_
          refine x_istore7 dX0_plain_91 rfl ?_
          have hm : m < tM T := by omega
          have h0 := psI_0 T a x0
          refine x_up1 (tM T) (fun o n' => m < o → o ≤ tM T → n' = n + sumI o (psF T a m) → am_X G mX0_plain (d + 430) 93 [aR x, aI w, aI (plI T a.toNat).1, aI (if (plI T a.toNat).2 < 0 then 1000000 else (plI T a.toNat).2), aI a, aI n', aI m, aI o] [] L hh Q) (fun o n' iho z0 z1 en' => ?_) (m + 1) n (by omega) (by omega) (by omega)
          have b1 : bAnd (bShr a m) 1 = bt a m := rfl
          have b2 : bAnd (bShr a o) 1 = bt a o := rfl
          have b3 := bt_01 a m
          have b4 := bt_01 a o
          refine x_iload7 dX0_plain_93 ?_
          refine x_aload_0 dX0_plain_95 ?_
          refine x_callV0 dX0_plain_96 rfl okX0_men q1196 q1198 qs33 (by first | assumption | (exact MkL.k0 (by assumption))) am_k0 rfl (C_X0_men hC1 (x_k1 ?_))
          refine x_icmp_ge (tgt := 135) dX0_plain_99 rfl (by omega) (by omega) (fun c99 => ?_) (fun c99 => ?_)
          · refine x_iinc6 dX0_plain_135 rfl ?_
            refine x_goto (tgt := 78) dX0_plain_138 rfl ?_
            refine ihm hm _ _ (by omega) (by omega) ?_
            rw [sumI_s _ x0, en', en, show o = tM T by omega]
          · refine x_iload5 dX0_plain_102 ?_
            refine x_aload_0 dX0_plain_104 ?_
            refine x_iload6 dX0_plain_105 ?_
            refine x_iload4 dX0_plain_107 ?_
            refine x_iload6 dX0_plain_109 ?_
            refine x_ishr dX0_plain_111 ?_
            refine x_iconst dX0_plain_112 ?_
            refine x_iand dX0_plain_113 ?_
            refine x_iload7 dX0_plain_114 ?_
            refine x_iload4 dX0_plain_116 ?_
            refine x_iload7 dX0_plain_118 ?_
            refine x_ishr dX0_plain_120 ?_
            refine x_iconst dX0_plain_121 ?_
            refine x_iand dX0_plain_122 ?_
            refine x_callV4 dX0_plain_123 rfl okX0_lieTogether q1512 q1514 qs50 (by first | assumption | (exact MkL.k0 (by assumption))) am_k0 rfl (C_X0_lieTogether (m := m) (c := bt a m) (n := o) (e := bt a o) hK hT ⟨x0, hm⟩ ⟨by omega, by omega⟩ ⟨by omega, by omega⟩ ⟨by omega, by omega⟩ p2 (x_k1 ?_))
            refine x_iadd dX0_plain_126 ?_
            refine x_istore5 dX0_plain_127 rfl ?_
            refine x_iinc7 dX0_plain_129 rfl ?_
            refine x_goto (tgt := 93) dX0_plain_132 rfl ?_
            refine iho (by omega) _ (by omega) (by omega) ?_
            rw [sumI_s _ (by omega), en']
            have e : psF T a m o = crR T m (bt a m) o (bt a o) := if_pos z0
            omega
    · refine x_iconst dX0_plain_29 ?_
      refine x_istore5 dX0_plain_30 rfl ?_
      have hi : i < tM T := by omega
      refine x_for 2 (fun c h2 => FrS h h2 x ∧ liesP T h2 x i ∧ ∀ c' s, 0 ≤ c' → c' < c → 0 ≤ s → s < 288 → h2 (x + 251 + 3 * i + c') s = plC T i c' s) (fun c h2 => am_X G mX0_plain (d + 430) 32 [aR x, aI w, aI 0, aI 1000000, aI i, aI c, aU, aU] [] L h2 Q) (fun c h2 y0 y1 hP2 ih2 => ?_) hh (by omega) ⟨p1, p2, fun c' s z0 z1 => by omega⟩
      obtain ⟨u1, u2, u3⟩ := hP2
      have hC2 := hC.fr u1
      refine x_iload5 dX0_plain_32 ?_
      refine x_iconst dX0_plain_34 ?_
      refine x_icmp_ge (tgt := 52) dX0_plain_35 rfl (by omega) (by omega) (fun c35 => ?_) (fun c35 => ?_)
      · refine x_iinc4 dX0_plain_52 rfl ?_
        refine x_goto (tgt := 20) dX0_plain_55 rfl ?_
        refine ih _ _ hi ⟨u1, fun m c' s z0 z1 z2 z3 z4 z5 => ?_⟩
        by_cases e : m = i
        · rw [e]
          exact u3 c' s z2 (by omega) z4 z5
        · exact u2 m c' s z0 (by omega) z2 z3 z4 z5
      · refine x_aload_0 dX0_plain_38 ?_
        refine x_iload4 dX0_plain_39 ?_
        refine x_iload5 dX0_plain_41 ?_
        refine x_callV2 dX0_plain_43 rfl okX0_laysLegs q1503 q1505 qs48 (by first | assumption | (exact MkL.k0 (by assumption))) am_k0 rfl (C_X0_laysLegs hC2 hT ⟨g0, hi⟩ ⟨y0, by omega⟩ (fun h3 f3 r3 => (x_k0 ?_)))
        refine x_iinc5 dX0_plain_46 rfl ?_
        refine x_goto (tgt := 32) dX0_plain_49 rfl ?_
        refine ih2 _ (by omega) ⟨u1.tr (fQ ⟨g0, hi⟩ ⟨y0, by omega⟩ f3), fun m c' s z0 z1 z2 z3 z4 z5 => ?_, fun c' s z0 z1 z2 z3 => ?_⟩
        · rw [f3 _ (by omega) (by omega)]
          exact u2 m c' s z0 z1 z2 z3 z4 z5
        · by_cases e : c' = c
          · rw [e]
            exact r3 s z2 z3
          · rw [f3 _ (by omega) (by omega)]
            exact u3 c' s z0 (by omega) z2 z3
  · refine x_iconst dX0_plain_9 ?_
    refine x_iret dX0_plain_10 rfl ?_
    refine x_q1 ?_ (k h (FrS.rf h x))
    unfold plainV
    rw [if_neg (fun z => by rw [if_pos z] at c6; omega)]
end PLAINC
