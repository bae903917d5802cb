/-! THE TOWN: what both sides hold, as mathematics -/
set_option maxRecDepth 100000
/-- a law: what it tells of six numbers -/
abbrev Lam : Type := (Int → Int) → Int
/-- men, wide, deep, seed, pillars; doors' x, y; dyes; errands: how many, x, y; pillars' x, y; laws; the thread's law -/
abbrev Txt : Type := (Int × Int × Int × Int × Int) × (Int → Int) × (Int → Int) × (Int → Int) × (Int → Int) × (Int → Int → Int) × (Int → Int → Int) × (Int → Int) × (Int → Int) × (Int → Option Lam) × Option Lam
def tM (T : Txt) : Int := T.1.1
def tWide (T : Txt) : Int := T.1.2.1
def tDeep (T : Txt) : Int := T.1.2.2.1
def tSeed (T : Txt) : Int := T.1.2.2.2.1
def tP (T : Txt) : Int := T.1.2.2.2.2
def tDX (T : Txt) : Int → Int := T.2.1
def tDY (T : Txt) : Int → Int := T.2.2.1
def tDye (T : Txt) : Int → Int := T.2.2.2.1
def tE (T : Txt) : Int → Int := T.2.2.2.2.1
def tEX (T : Txt) : Int → Int → Int := T.2.2.2.2.2.1
def tEY (T : Txt) : Int → Int → Int := T.2.2.2.2.2.2.1
def tPX (T : Txt) : Int → Int := T.2.2.2.2.2.2.2.1
def tPY (T : Txt) : Int → Int := T.2.2.2.2.2.2.2.2.1
def tG (T : Txt) : Int → Option Lam := T.2.2.2.2.2.2.2.2.2.1
def tL (T : Txt) : Option Lam := T.2.2.2.2.2.2.2.2.2.2
/-- x, y, pieces; step, street, time of a piece; lost (bits), minute, next -/
abbrev Row : Type := (Int → Int) × (Int → Int) × (Int → Int) × (Int → Int → Int) × (Int → Int → Int) × (Int → Int → Int) × Int × Int × Int
def rX (S : Row) : Int → Int := S.1
def rY (S : Row) : Int → Int := S.2.1
def rN (S : Row) : Int → Int := S.2.2.1
def rW (S : Row) : Int → Int → Int := S.2.2.2.1
def rS (S : Row) : Int → Int → Int := S.2.2.2.2.1
def rT (S : Row) : Int → Int → Int := S.2.2.2.2.2.1
def rL (S : Row) : Int := S.2.2.2.2.2.2.1
def rM (S : Row) : Int := S.2.2.2.2.2.2.2.1
def rQ (S : Row) : Int := S.2.2.2.2.2.2.2.2
def up1 (f : Int → Int) (m v : Int) : Int → Int := fun o => if o = m then v else f o
def up2 (f : Int → Int → Int) (m k v : Int) : Int → Int → Int := fun o j => if o = m ∧ j = k then v else f o j
/-- a man's bit of a set -/
def bt (s m : Int) : Int := bAnd (bShr s m) 1
def dX (w : Int) : Int := if w = 2 then 1 else if w = 4 then -1 else 0
def dY (w : Int) : Int := if w = 1 then 1 else if w = 3 then -1 else 0
/-- a street by its lesser corner -/
def stO (x y w : Int) : Int := 2 * (12 * (if y + dY w < y then y + dY w else y) + (if x + dX w < x then x + dX w else x)) + (if dY w = 0 then 0 else 1)
def inT (T : Txt) (x y : Int) : Prop := 0 ≤ x ∧ x < tWide T ∧ 0 ≤ y ∧ y < tDeep T
theorem dX_bd (w : Int) : -1 ≤ dX w ∧ dX w ≤ 1 := by unfold dX; split <;> (try split) <;> omega
theorem dY_bd (w : Int) : -1 ≤ dY w ∧ dY w ≤ 1 := by unfold dY; split <;> (try split) <;> omega
/-- six numbers of a man -/
def env6 (a b c d e f : Int) : Int → Int := fun i => if i = 0 then a else if i = 1 then b else if i = 2 then c else if i = 3 then d else if i = 4 then e else f
/-- how long a man's thread is -/
def lng (T : Txt) (m : Int) : Int := match tL T with
  | none => 30
  | some la => if la (env6 (tDX T m) (tDY T m) 0 0 0 m) < 60 then la (env6 (tDX T m) (tDY T m) 0 0 0 m) else 60
/-- laws tell what isn't less than nought -/
def lamOk (la : Lam) : Prop := (∀ v : Int → Int, 0 ≤ la v) ∧ ∀ v : Int → Int, (∀ i, rg32 (v i)) → la v ≤ 2147483647
theorem env6_rg {a b c d e f : Int} (h1 : rg32 a) (h2 : rg32 b) (h3 : rg32 c) (h4 : rg32 d) (h5 : rg32 e) (h6 : rg32 f) : ∀ i, rg32 (env6 a b c d e f i) := by
  intro i
  unfold env6
  (repeat' split) <;> assumption
theorem lamOk.rg {la : Lam} (h : lamOk la) {v : Int → Int} (hv : ∀ i, rg32 (v i)) : 0 ≤ la v ∧ la v ≤ 2147483647 := ⟨h.1 v, h.2 v hv⟩
/-- what holds of every text that is read -/
def TxtI (T : Txt) : Prop :=
  (0 ≤ tM T ∧ tM T ≤ 7) ∧ (2 ≤ tWide T ∧ tWide T ≤ 12) ∧ (2 ≤ tDeep T ∧ tDeep T ≤ 12) ∧ (0 ≤ tSeed T ∧ tSeed T ≤ 9999) ∧ (0 ≤ tP T ∧ tP T ≤ 6) ∧
  (∀ m, 0 ≤ m → m < tM T → inT T (tDX T m) (tDY T m) ∧ (0 ≤ tDye T m ∧ tDye T m ≤ 9) ∧ (0 ≤ tE T m ∧ tE T m ≤ 6) ∧ (∀ k, 0 ≤ k → k < tE T m → inT T (tEX T m k) (tEY T m k)) ∧ (∀ la, tG T m = some la → lamOk la)) ∧
  (∀ p, 0 ≤ p → p < tP T → (0 ≤ tPX T p ∧ tPX T p ≤ 10) ∧ (0 ≤ tPY T p ∧ tPY T p ≤ 10)) ∧ (∀ la, tL T = some la → lamOk la)
theorem lng_bd {T : Txt} (hT : TxtI T) (m : Int) : 0 ≤ lng T m ∧ lng T m ≤ 60 := by
  unfold lng
  match e : tL T with
  | none => simp only; omega
  | some la =>
    have := (hT.2.2.2.2.2.2.2 la e).1 (env6 (tDX T m) (tDY T m) 0 0 0 m)
    simp only
    split <;> omega
/-- where a man stands behind k pieces -/
def posX (T : Txt) (S : Row) (m : Int) (k : Int) : Int := tDX T m + sumI k (fun j => dX (rW S m j))
def posY (T : Txt) (S : Row) (m : Int) (k : Int) : Int := tDY T m + sumI k (fun j => dY (rW S m j))
def arF (s t : Int → Int → Int) (sv tv ab o : Int) (k : Int) : Int := if s o k = sv ∧ (if ab = 0 then t o k < tv else tv < t o k) then 1 else 0
/-- how many of the first M men's pieces lie on the street sv behind (ab) or ahead of the time tv -/
def arS (M : Int) (n : Int → Int) (s t : Int → Int → Int) (sv tv ab : Int) : Int := sumI M (fun o => sumI (n o) (arF s t sv tv ab o))
theorem arS_bd {M : Int} {n : Int → Int} {s t : Int → Int → Int} {sv tv ab : Int} (hM : 0 ≤ M) (hn : ∀ o, 0 ≤ o → o < M → 0 ≤ n o ∧ n o ≤ 60) : 0 ≤ arS M n s t sv tv ab ∧ arS M n s t sv tv ab ≤ M * 60 := by
  refine sumI_bd hM (fun o h0 h1 => ?_)
  have := sumI_bd (n := n o) (b := 1) (f := arF s t sv tv ab o) (hn o h0 h1).1 (fun k _ _ => by unfold arF; split <;> omega)
  have := hn o h0 h1
  omega
/-- what holds of every row that comes up; b: its minutes, q: its pieces' times at most -/
def RowI (T : Txt) (S : Row) (b q : Int) : Prop :=
  (∀ m, 0 ≤ m → m < 7 → (0 ≤ rN S m ∧ rN S m ≤ lng T m) ∧ (tM T ≤ m → rN S m = 0) ∧ (bt (rL S) m = 0 ∨ rN S m = 0)) ∧
  (∀ m, 0 ≤ m → m < tM T → inT T (rX S m) (rY S m) ∧ (bt (rL S) m = 0 → rX S m = posX T S m (rN S m) ∧ rY S m = posY T S m (rN S m))) ∧
  (∀ m k, 0 ≤ m → m < tM T → 0 ≤ k → k < rN S m → (1 ≤ rW S m k ∧ rW S m k ≤ 4) ∧ (0 ≤ rT S m k ∧ rT S m k < rQ S) ∧ rS S m k = stO (posX T S m k) (posY T S m k) (rW S m k) ∧ inT T (posX T S m k) (posY T S m k) ∧ inT T (posX T S m (k + 1)) (posY T S m (k + 1))) ∧
  (∀ m k o j, 0 ≤ m → m < tM T → 0 ≤ k → k < rN S m → 0 ≤ o → o < tM T → 0 ≤ j → j < rN S o → rT S m k = rT S o j → m = o ∧ k = j) ∧
  (0 ≤ rL S ∧ rL S < 128) ∧ (∀ m, tM T ≤ m → m < 7 → 0 ≤ m → bt (rL S) m = 0) ∧ (0 ≤ rM S ∧ rM S ≤ b) ∧ (0 ≤ rQ S ∧ rQ S ≤ q)
/-- the next step of man m by way w -/
def stepR (S : Row) (m w : Int) : Row :=
  (up1 (rX S) m (rX S m + dX w), up1 (rY S) m (rY S m + dY w), up1 (rN S) m (rN S m + 1), up2 (rW S) m (rN S m) w, up2 (rS S) m (rN S m) (stO (rX S m) (rY S m) w), up2 (rT S) m (rN S m) (rQ S), rL S, rM S, rQ S + 1)
/-- may man m go by way w -/
def canStep (T : Txt) (S : Row) (m w : Int) : Prop := bt (rL S) m = 0 ∧ rN S m < lng T m ∧ inT T (rX S m + dX w) (rY S m + dY w)
/-- pieces of all men on a street behind or ahead of a time -/
def othR (S : Row) (M sv tv ab : Int) : Int := arS M (rN S) (rS S) (rT S) sv tv ab
def canWind (T : Txt) (S : Row) (m : Int) : Prop := bt (rL S) m = 0 ∧ rN S m ≠ 0 ∧ othR S (tM T) (rS S m (rN S m - 1)) (rT S m (rN S m - 1)) 1 = 0
def windR (S : Row) (m : Int) : Row :=
  (up1 (rX S) m (rX S m - dX (rW S m (rN S m - 1))), up1 (rY S) m (rY S m - dY (rW S m (rN S m - 1))), up1 (rN S) m (rN S m - 1), rW S, rS S, rT S, rL S, rM S, rQ S)
def ovF (S : Row) (m o i k : Int) : Int := if rS S m i = rS S o k ∧ rT S o k < rT S m i then 1 else 0
/-- how many pieces of m lie over pieces of o -/
def ovR (S : Row) (m o : Int) : Int := sumI (rN S m) (fun i => sumI (rN S o) (ovF S m o i))
def cutR (S : Row) (m : Int) : Row := (rX S, rY S, up1 (rN S) m 0, rW S, rS S, rT S, bOr (rL S) (bShl 1 m), rM S, rQ S)
/-- the row at the start -/
def begR (T : Txt) : Row := (tDX T, tDY T, fun _ => 0, fun _ _ => 0, fun _ _ => 0, fun _ _ => 0, 0, 0, 0)
def mixR (h v : Int) : Int := bXor (bXor h v * 1103515245 + 12345) (bUshr (bXor h v * 1103515245 + 12345) 15)
def lotR (seed which n : Int) : Int := bRem (bUshr (mixR (mixR seed 28) which) 1) n
/-- what man m would do, off minutes less -/
def doesR (T : Txt) (S : Row) (m off : Int) : Int := match tG T m with
  | none => 0
  | some la => if bt (rL S) m = 1 then 0 else la (env6 (rX S m) (rY S m) (rM S - off) (lng T m - rN S m) (lotR (tSeed T) (8 * (rM S - off) + m) 100) m) % 6
noncomputable def goR (T : Txt) (S : Row) (m off : Int) : Row := by
  classical exact if doesR T S m off = 5 then (if canWind T S m then windR S m else S) else if 0 < doesR T S m off then (if canStep T S m (doesR T S m off) then stepR S m (doesR T S m off) else S) else S
/-- whose piece lies uppermost on a street, -2 nobody's -/
def topP (T : Txt) (S : Row) (sv r : Int) : Prop :=
  (r = -2 ∧ ∀ m k, 0 ≤ m → m < tM T → 0 ≤ k → k < rN S m → rS S m k ≠ sv) ∨
  (0 ≤ r ∧ r < tM T ∧ ∃ i, 0 ≤ i ∧ i < rN S r ∧ rS S r i = sv ∧ ∀ m k, 0 ≤ m → m < tM T → 0 ≤ k → k < rN S m → rS S m k = sv → rT S m k ≤ rT S r i)
theorem sumI_ext {M N : Int} {f : Int → Int} (h0 : 0 ≤ M) (h : M ≤ N) (hz : ∀ k, M ≤ k → k < N → f k = 0) : sumI N f = sumI M f := by
  obtain ⟨n, hn⟩ : ∃ n : Nat, N = M + n := ⟨(N - M).toNat, by omega⟩
  subst hn
  induction n with
  | zero => rw [show M + ((0 : Nat) : Int) = M by omega]
  | succ n ih =>
    rw [show M + ((n + 1 : Nat) : Int) = (M + n) + 1 by omega, sumI_s f (by omega), hz (M + n) (by omega) (by omega), ih (by omega) (fun k h1 h2 => hz k h1 (by omega))]
    omega
