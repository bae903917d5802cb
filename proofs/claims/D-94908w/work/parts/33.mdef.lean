/-! THE TWIN: its text, its rows, what work leaves alone -/
set_option maxRecDepth 100000
/-- a street as the twin numbers it -/
def s2 (s : Int) : Int := s / 2 + 144 * (s % 2)
theorem s2_inj {a b : Int} (ha : 0 ≤ a ∧ a < 288) (hb : 0 ≤ b ∧ b < 288) (h : s2 a = s2 b) : a = b := by unfold s2 at h; omega
theorem s2_bd {a : Int} (ha : 0 ≤ a ∧ a < 288) : 0 ≤ s2 a ∧ s2 a < 288 := by unfold s2; omega
/-- f holds the row S -/
def RwF (f : Int → Int) (M : Int) (S : Row) : Prop :=
  (∀ m, 0 ≤ m → m < 7 → f (14 + m) = rN S m ∧ f (21 + m) = bt (rL S) m) ∧ (∀ m, 0 ≤ m → m < M → f m = rX S m ∧ f (7 + m) = rY S m) ∧
  (∀ m k, 0 ≤ m → m < 7 → 0 ≤ k → k < rN S m → f (30 + (60 * m + k)) = rW S m k ∧ f (450 + (60 * m + k)) = rT S m k ∧ f (870 + (60 * m + k)) = s2 (rS S m k)) ∧ f 28 = rM S ∧ f 29 = rQ S
theorem RwF.cg {f g : Int → Int} {M : Int} {S : Row} (hN : ∀ m, 0 ≤ m → m < 7 → rN S m ≤ 60) (hM : M ≤ 7) (h : ∀ i, 0 ≤ i → i < 1290 → g i = f i) (r : RwF f M S) : RwF g M S := by
  obtain ⟨r1, r2, r3, r4, r5⟩ := r
  refine ⟨fun m h0 h1 => ?_, fun m h0 h1 => ?_, fun m k h0 h1 h2 h3 => ?_, ?_, ?_⟩
  · rw [h _ (by omega) (by omega), h _ (by omega) (by omega)]
    exact r1 m h0 h1
  · rw [h _ (by omega) (by omega), h _ (by omega) (by omega)]
    exact r2 m h0 h1
  · have := hN m h0 h1
    rw [h _ (by omega) (by omega), h _ (by omega) (by omega), h _ (by omega) (by omega)]
    exact r3 m k h0 h1 h2 h3
  · rw [h _ (by omega) (by omega)]
    exact r4
  · rw [h _ (by omega) (by omega)]
    exact r5
def opI (k : Int) : Int := if k = 2 then 43 else if k = 3 then 45 else if k = 4 then 42 else 47
/-- the codes from a to b tell ta -/
def Seg (c ci : Int → Int) : Nat → Int → Int → Tau → Prop
  | 0, _, _, _ => False
  | n + 1, a, b, ta => (c a = 0 ∧ b = a + 1 ∧ ta = fun _ => (ci a, 0)) ∨ (c a = 1 ∧ (0 ≤ ci a ∧ ci a < 6) ∧ b = a + 1 ∧ ta = fun v => (v (ci a), 0)) ∨
    ∃ (u e : Int) (t1 t2 : Tau), Seg c ci n a u t1 ∧ Seg c ci n u e t2 ∧ (2 ≤ c e ∧ c e ≤ 5) ∧ b = e + 1 ∧ ta = jnT (opI (c e)) t1 t2
theorem Seg.lt {c ci : Int → Int} : ∀ (n : Nat) {a b : Int} {ta : Tau}, Seg c ci n a b ta → a < b
  | 0, _, _, _, h => h.elim
  | n + 1, a, b, ta, h => by
    rcases h with ⟨h1, h2, h3⟩ | ⟨h1, h2, h3, h4⟩ | ⟨u, e, t1, t2, h1, h2, h3, h4, h5⟩
    · omega
    · omega
    · have := Seg.lt n h1
      have := Seg.lt n h2
      omega
theorem Seg.up {c ci : Int → Int} : ∀ (n : Nat) {a b : Int} {ta : Tau}, Seg c ci n a b ta → Seg c ci (n + 1) a b ta
  | 0, _, _, _, h => h.elim
  | n + 1, a, b, ta, h => by
    rcases h with h | h | ⟨u, e, t1, t2, h1, h2, h3, h4, h5⟩
    · exact Or.inl h
    · exact Or.inr (Or.inl h)
    · exact Or.inr (Or.inr ⟨u, e, t1, t2, Seg.up n h1, Seg.up n h2, h3, h4, h5⟩)
theorem Seg.le {c ci : Int → Int} {a b : Int} {ta : Tau} {n m : Nat} (h : n ≤ m) (hs : Seg c ci n a b ta) : Seg c ci m a b ta := by
  induction h with
  | refl => exact hs
  | step _ ih => exact Seg.up _ ih
theorem Seg.cg {c ci c' ci' : Int → Int} (lo hi : Int) (hc : ∀ i, lo ≤ i → i < hi → c' i = c i ∧ ci' i = ci i) : ∀ (n : Nat) {a b : Int} {ta : Tau}, Seg c ci n a b ta → lo ≤ a → b ≤ hi → Seg c' ci' n a b ta
  | 0, _, _, _, h => h.elim
  | n + 1, a, b, ta, h => fun ha hb => by
    rcases h with ⟨h1, h2, h3⟩ | ⟨h1, h2, h3, h4⟩ | ⟨u, e, t1, t2, h1, h2, h3, h4, h5⟩
    · obtain ⟨e1, e2⟩ := hc a ha (by omega)
      exact Or.inl ⟨by rw [e1]; exact h1, h2, by rw [e2]; exact h3⟩
    · obtain ⟨e1, e2⟩ := hc a ha (by omega)
      exact Or.inr (Or.inl ⟨by rw [e1]; exact h1, by rw [e2]; exact h2, h3, by rw [e2]; exact h4⟩)
    · have l1 := Seg.lt n h1
      have l2 := Seg.lt n h2
      obtain ⟨e1, e2⟩ := hc e (by omega) (by omega)
      exact Or.inr (Or.inr ⟨u, e, t1, t2, Seg.cg lo hi hc n h1 ha (by omega), Seg.cg lo hi hc n h2 (by omega) (by omega), by rw [e1]; exact h3, h4, by rw [e1]; exact h5⟩)
/-- a segment of a side's codes -/
def SegT (h : am_H) (o s a b : Int) (ta : Tau) : Prop := 420 * s ≤ a ∧ b ≤ 420 * s + 420 ∧ ∃ n, Seg (h (o + 32)) (h (o + 33)) n a b ta
/-- the branches from f to l tell la -/
def LwB (h : am_H) (o s f l : Int) (la : Lam) : Prop := ∃ (n : Int) (tl tt te : Int → Tau), (0 ≤ n ∧ n ≤ 4) ∧ 130 * s ≤ f ∧ l = f + n + 1 ∧ l ≤ 130 * s + 130 ∧ la = lamOf n tl tt te ∧
  (∀ k, 0 ≤ k → k < n → h (o + 27) (f + k) = 1 ∧ SegT h o s (h (o + 28) (f + k)) (h (o + 29) (f + k)) (tl k) ∧ SegT h o s (h (o + 29) (f + k)) (h (o + 30) (f + k)) (tt k)) ∧
  (∀ k, 0 ≤ k → k ≤ n → SegT h o s (h (o + 30) (f + k)) (h (o + 31) (f + k)) (te k)) ∧ h (o + 27) (f + n) = 0
/-- the law at place at -/
def LawM (h : am_H) (o s at_ : Int) (ol : Option Lam) : Prop := (ol = none ∧ h (o + 25) at_ = h (o + 26) at_) ∨ ∃ la, ol = some la ∧ LwB h o s (h (o + 25) at_) (h (o + 26) at_) la
/-- the side s tells T -/
def TxS (h : am_H) (o s : Int) (T : Txt) : Prop :=
  h (o + 11) s = tM T ∧ h (o + 9) s = tWide T ∧ h (o + 10) s = tDeep T ∧ h (o + 18) s = tP T ∧ h (o + 21) s = tSeed T ∧
  (∀ m, 0 ≤ m → m < tM T → h (o + 12) (7 * s + m) = tDX T m ∧ h (o + 13) (7 * s + m) = tDY T m ∧ h (o + 14) (7 * s + m) = tDye T m ∧ h (o + 15) (7 * s + m) = tE T m ∧
    (∀ k, 0 ≤ k → k < tE T m → h (o + 16) (42 * s + 6 * m + k) = tEX T m k ∧ h (o + 17) (42 * s + 6 * m + k) = tEY T m k) ∧ LawM h o s (8 * s + m) (tG T m)) ∧
  (∀ p, 0 ≤ p → p < tP T → h (o + 19) (6 * s + p) = tPX T p ∧ h (o + 20) (6 * s + p) = tPY T p) ∧ LawM h o s (8 * s + 7) (tL T)
/-- the twin tells T (s: the side that lives) -/
def MdT (L : am_L) (h : am_H) (o s : Int) (T : Txt) : Prop := MdL L o ∧ (0 ≤ s ∧ s ≤ 1) ∧ h o 18 = s ∧ TxS h o s T
/-- nothing but what laws work with was written -/
def FrV (h h' : am_H) (o : Int) : Prop := ∀ a i, (a ≠ o + 35 ∧ a ≠ o + 36 ∧ (a = o → i ≠ 54)) → h' a i = h a i
/-- nor but the row -/
def FrR (h h' : am_H) (o : Int) : Prop := ∀ a i, (a ≠ o + 35 ∧ a ≠ o + 36 ∧ a ≠ o + 38 ∧ (a = o → i ≠ 54)) → h' a i = h a i
/-- nor but what is worked with -/
def FrW (h h' : am_H) (o : Int) : Prop := ∀ a i, ((a < o + 35 ∨ a = o + 37 ∨ a = o + 40 ∨ o + 48 ≤ a) ∧ (a = o → i ≠ 54 ∧ i ≠ 64 ∧ i ≠ 65)) → h' a i = h a i
theorem FrV.rf (h : am_H) (o : Int) : FrV h h o := fun _ _ _ => rfl
theorem FrR.rf (h : am_H) (o : Int) : FrR h h o := fun _ _ _ => rfl
theorem FrW.rf (h : am_H) (o : Int) : FrW h h o := fun _ _ _ => rfl
theorem FrV.tr {h h1 h2 : am_H} {o : Int} (a : FrV h h1 o) (b : FrV h1 h2 o) : FrV h h2 o := fun x i hx => (b x i hx).trans (a x i hx)
theorem FrR.tr {h h1 h2 : am_H} {o : Int} (a : FrR h h1 o) (b : FrR h1 h2 o) : FrR h h2 o := fun x i hx => (b x i hx).trans (a x i hx)
theorem FrW.tr {h h1 h2 : am_H} {o : Int} (a : FrW h h1 o) (b : FrW h1 h2 o) : FrW h h2 o := fun x i hx => (b x i hx).trans (a x i hx)
theorem FrV.r {h h1 : am_H} {o : Int} (a : FrV h h1 o) : FrR h h1 o := fun x i hx => a x i ⟨hx.1, hx.2.1, hx.2.2.2⟩
theorem FrR.w {h h1 : am_H} {o : Int} (a : FrR h h1 o) : FrW h h1 o := fun x i hx => a x i ⟨by omega, by omega, by omega, fun z => (hx.2 z).1⟩
theorem FrV.w {h h1 : am_H} {o : Int} (a : FrV h h1 o) : FrW h h1 o := a.r.w
section MDEF
variable {L : am_L} {h h' : am_H} {o s : Int} {T : Txt}
theorem SegT.fr (hf : FrW h h' o) {a b : Int} {ta : Tau} (r : SegT h o s a b ta) : SegT h' o s a b ta := by
  obtain ⟨r1, r2, n, r3⟩ := r
  exact ⟨r1, r2, n, Seg.cg a b (fun i _ _ => ⟨hf _ _ ⟨by omega, fun z => by omega⟩, hf _ _ ⟨by omega, fun z => by omega⟩⟩) n r3 (by omega) (by omega)⟩
theorem LwB.fr (hf : FrW h h' o) {f l : Int} {la : Lam} (r : LwB h o s f l la) : LwB h' o s f l la := by
  obtain ⟨n, tl, tt, te, a1, a2, a3, a4, a5, a6, a7, a8⟩ := r
  have g : ∀ a i, o < a → a < o + 35 → h' a i = h a i := fun a i h0 h1 => hf a i ⟨by omega, fun z => by omega⟩
  refine ⟨n, tl, tt, te, a1, a2, a3, a4, a5, fun k h0 h1 => ?_, fun k h0 h1 => ?_, ?_⟩
  · obtain ⟨b1, b2, b3⟩ := a6 k h0 h1
    rw [g _ _ (by omega) (by omega), g _ _ (by omega) (by omega), g _ _ (by omega) (by omega), g _ _ (by omega) (by omega)]
    exact ⟨b1, b2.fr hf, b3.fr hf⟩
  · rw [g _ _ (by omega) (by omega), g _ _ (by omega) (by omega)]
    exact (a7 k h0 h1).fr hf
  · rw [g _ _ (by omega) (by omega)]
    exact a8
theorem LawM.fr (hf : FrW h h' o) {at_ : Int} {ol : Option Lam} (r : LawM h o s at_ ol) : LawM h' o s at_ ol := by
  have g : ∀ a i, o < a → a < o + 35 → h' a i = h a i := fun a i h0 h1 => hf a i ⟨by omega, fun z => by omega⟩
  rcases r with ⟨r1, r2⟩ | ⟨la, r1, r2⟩
  · exact Or.inl ⟨r1, by rw [g _ _ (by omega) (by omega), g _ _ (by omega) (by omega)]; exact r2⟩
  · refine Or.inr ⟨la, r1, ?_⟩
    rw [g _ _ (by omega) (by omega), g _ _ (by omega) (by omega)]
    exact r2.fr hf
theorem TxS.fr (hf : FrW h h' o) (r : TxS h o s T) : TxS h' o s T := by
  have g : ∀ a i, o < a → a < o + 35 → h' a i = h a i := fun a i h0 h1 => hf a i ⟨by omega, fun z => by omega⟩
  obtain ⟨a1, a2, a3, a4, a5, a6, a7, a8⟩ := r
  refine ⟨by rw [g _ _ (by omega) (by omega)]; exact a1, by rw [g _ _ (by omega) (by omega)]; exact a2, by rw [g _ _ (by omega) (by omega)]; exact a3, by rw [g _ _ (by omega) (by omega)]; exact a4, by rw [g _ _ (by omega) (by omega)]; exact a5, fun m h0 h1 => ?_, fun p h0 h1 => ?_, a8.fr hf⟩
  · obtain ⟨b1, b2, b3, b4, b5, b6⟩ := a6 m h0 h1
    rw [g _ _ (by omega) (by omega), g _ _ (by omega) (by omega), g _ _ (by omega) (by omega), g _ _ (by omega) (by omega)]
    refine ⟨b1, b2, b3, b4, fun k h2 h3 => ?_, b6.fr hf⟩
    rw [g _ _ (by omega) (by omega), g _ _ (by omega) (by omega)]
    exact b5 k h2 h3
  · rw [g _ _ (by omega) (by omega), g _ _ (by omega) (by omega)]
    exact a7 p h0 h1
theorem MdT.fr (hf : FrW h h' o) (r : MdT L h o s T) : MdT L h' o s T := by
  refine ⟨r.1, r.2.1, ?_, r.2.2.2.fr hf⟩
  rw [hf o _ ⟨by omega, fun z => by omega⟩]
  exact r.2.2.1
end MDEF
