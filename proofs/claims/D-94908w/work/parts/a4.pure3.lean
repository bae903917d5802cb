/-! READING: what is told, as functions -/
set_option maxRecDepth 100000
/-- text, names; corners: how many, x, y, token; the least fault that waits: which, token -/
abbrev PS : Type := (Txt × (Int → Int)) × (Int × (Int → Int) × (Int → Int) × (Int → Int)) × (Int × Int)
def uT (u : PS) : Txt := u.1.1
def uN (u : PS) : Int → Int := u.1.2
def uC (u : PS) : Int := u.2.1.1
def uX (u : PS) : Int → Int := u.2.1.2.1
def uY (u : PS) : Int → Int := u.2.1.2.2.1
def uK (u : PS) : Int → Int := u.2.1.2.2.2
def uW (u : PS) : Int := u.2.2.1
def uV (u : PS) : Int := u.2.2.2
def upO (f : Int → Option Lam) (k : Int) (v : Option Lam) : Int → Option Lam := fun j => if j = k then v else f j
def tWide' (T : Txt) (w : Int) : Txt := ((tM T, w, tDeep T, tSeed T, tP T), T.2)
def tDeep' (T : Txt) (w : Int) : Txt := ((tM T, tWide T, w, tSeed T, tP T), T.2)
def tSeed' (T : Txt) (w : Int) : Txt := ((tM T, tWide T, tDeep T, w, tP T), T.2)
def tMan' (T : Txt) (x y : Int) : Txt := ((tM T + 1, T.1.2), up1 (tDX T) (tM T) x, up1 (tDY T) (tM T) y, up1 (tDye T) (tM T) 0, up1 (tE T) (tM T) 0, tEX T, tEY T, tPX T, tPY T, upO (tG T) (tM T) none, tL T)
def tGoes' (T : Txt) (k : Int) (la : Lam) : Txt := (T.1, tDX T, tDY T, tDye T, tE T, tEX T, tEY T, tPX T, tPY T, upO (tG T) k (some la), tL T)
def tLong' (T : Txt) (la : Lam) : Txt := (T.1, tDX T, tDY T, tDye T, tE T, tEX T, tEY T, tPX T, tPY T, tG T, some la)
def tErr' (T : Txt) (k x y : Int) : Txt := (T.1, tDX T, tDY T, tDye T, up1 (tE T) k (tE T k + 1), up2 (tEX T) k (tE T k) x, up2 (tEY T) k (tE T k) y, tPX T, tPY T, tG T, tL T)
def tPil' (T : Txt) (x y : Int) : Txt := ((tM T, tWide T, tDeep T, tSeed T, tP T + 1), tDX T, tDY T, tDye T, tE T, tEX T, tEY T, up1 (tPX T) (tP T) x, up1 (tPY T) (tP T) y, tG T, tL T)
def tDye' (T : Txt) (k v : Int) : Txt := (T.1, tDX T, tDY T, up1 (tDye T) k v, tE T, tEX T, tEY T, tPX T, tPY T, tG T, tL T)
def uT' (u : PS) (T : Txt) : PS := ((T, u.1.2), u.2)
/-- a corner noted -/
def uCor' (u : PS) (x y tk : Int) : PS := (u.1, (uC u + 1, up1 (uX u) (uC u) x, up1 (uY u) (uC u) y, up1 (uK u) (uC u) tk), u.2.2)
def uNam' (u : PS) (id : Int) : PS := ((u.1.1, up1 (uN u) (tM (uT u)) id), u.2)
/-- a fault that can wait -/
def pTell (n tk : Int) (u : PS) : PS := if uW u ≠ 0 ∧ (uV u < tk ∨ (tk = uV u ∧ uW u ≤ n)) then u else (u.1, u.2.1, (n, tk))
/-- the first of n names from k on that is id -/
def fdN (nm : Int → Int) : Nat → Int → Int → Int
  | 0, _, _ => -1
  | n + 1, k, id => if nm k = id then k else fdN nm n (k + 1) id
def fdM (u : PS) (id : Int) : Int := fdN (uN u) (tM (uT u)).toNat 0 id
theorem fdN_rg (nm : Int → Int) : ∀ (n : Nat) (k id : Int), fdN nm n k id = -1 ∨ (k ≤ fdN nm n k id ∧ fdN nm n k id < k + n)
  | 0, _, _ => Or.inl rfl
  | n + 1, k, id => by
    unfold fdN
    split
    · exact Or.inr ⟨by omega, by omega⟩
    · rcases fdN_rg nm n (k + 1) id with h | h
      · exact Or.inl h
      · exact Or.inr ⟨by omega, by omega⟩
theorem fdN_cg {f g : Int → Int} : ∀ (n : Nat) (k id : Int), (∀ i, k ≤ i → i < k + n → f i = g i) → fdN f n k id = fdN g n k id
  | 0, _, _, _ => rfl
  | n + 1, k, id, h => by
    unfold fdN
    rw [h k (Int.le_refl _) (by omega), fdN_cg n (k + 1) id (fun i z0 z1 => h i (by omega) (by omega))]
section PURE3
variable (K V I : Int → Int)
def pNum (lo hi a : Int) (u : PS) : (Int × Int × PS) ⊕ (Int × Int) := rb (pM K 2 a) fun a1 => .inl (V a, a1, if V a < lo ∨ hi < V a then pTell 5 a u else u)
def pKnown (a : Int) (u : PS) : (Int × Int × PS) ⊕ (Int × Int) := rb (pM K 1 a) fun a1 => .inl (fdM u (I a), a1, if fdM u (I a) < 0 then pTell 4 a u else u)
def pName (a : Int) (u : PS) : (Int × PS) ⊕ (Int × Int) := rb (pM K 1 a) fun a1 => .inl (a1, if 0 ≤ fdM u (I a) then pTell 3 a u else u)
/-- room for one more, and the token is passed -/
def pBeg (m q a : Int) : Int ⊕ (Int × Int) := if m = q then .inr (2, a) else pP a
def pTold (a : Int) (u : PS) : (Int × PS) ⊕ (Int × Int) :=
  if K a = 20 then rb (pP a) fun a1 => rb (pNum K V 2 12 a1 u) fun q => rb (pNum K V 2 12 q.2.1 q.2.2) fun r => .inl (r.2.1, uT' r.2.2 (tDeep' (tWide' (uT r.2.2) q.1) r.1))
  else if K a = 21 then rb (pBeg (tM (uT u)) 7 a) fun a1 => rb (pName K I a1 u) fun q => rb (pNum K V 0 11 q.1 q.2) fun r => rb (pNum K V 0 11 r.2.1 r.2.2) fun s =>
    .inl (s.2.1, uT' (uNam' (uCor' s.2.2 r.1 s.1 q.1) (I a1)) (tMan' (uT s.2.2) r.1 s.1))
  else if K a = 22 then rb (pP a) fun a1 => rb (pKnown K I a1 u) fun q => rb (pLaw K V q.2.1) fun r => .inl (r.2, if q.1 < 0 then q.2.2 else uT' q.2.2 (tGoes' (uT q.2.2) q.1 r.1))
  else if K a = 23 then rb (pP a) fun a1 => rb (pLaw K V a1) fun r => .inl (r.2, uT' u (tLong' (uT u) r.1))
  else if K a = 24 then rb (pP a) fun a1 => if (K a1 = 1 ∧ 0 ≤ fdM u (I a1)) ∧ tE (uT u) (fdM u (I a1)) = 6 then .inr (2, a) else
    rb (pKnown K I a1 u) fun q => rb (pNum K V 0 11 q.2.1 q.2.2) fun r => rb (pNum K V 0 11 r.2.1 r.2.2) fun s => .inl (s.2.1, if q.1 < 0 then s.2.2 else uT' (uCor' s.2.2 r.1 s.1 q.2.1) (tErr' (uT s.2.2) q.1 r.1 s.1))
  else if K a = 25 then rb (pBeg (tP (uT u)) 6 a) fun a1 => rb (pNum K V 0 10 a1 u) fun r => rb (pNum K V 0 10 r.2.1 r.2.2) fun s => .inl (s.2.1, uT' s.2.2 (tPil' (uT s.2.2) r.1 s.1))
  else if K a = 26 then rb (pP a) fun a1 => rb (pKnown K I a1 u) fun q => rb (pNum K V 0 9 q.2.1 q.2.2) fun r => .inl (r.2.1, if q.1 < 0 then r.2.2 else uT' r.2.2 (tDye' (uT r.2.2) q.1 r.1))
  else if K a = 27 then rb (pP a) fun a1 => rb (pNum K V 0 9999 a1 u) fun r => .inl (r.2.1, uT' r.2.2 (tSeed' (uT r.2.2) r.1))
  else .inr (1, a)
/-- all that is told, to the end -/
def pRun : Nat → Int → PS → PS ⊕ (Int × Int)
  | 0, _, _ => .inr (0, 0)
  | f + 1, a, u => if K a = 0 then .inl u else rb (pTold K V I a u) fun q => rb (pM K 4 q.1) fun a1 => pRun f a1 q.2
/-- the corners, from the k-th on -/
def pCor (u : PS) : Nat → Int → Txt ⊕ (Int × Int)
  | 0, _ => .inl (uT u)
  | n + 1, k => if 0 ≤ uX u k ∧ uX u k < tWide (uT u) ∧ 0 ≤ uY u k ∧ uY u k < tDeep (uT u) then pCor u n (k + 1) else .inr (6, uK u k)
def u0 : PS := ((T0, fun _ => 0), (0, fun _ => 0, fun _ => 0, fun _ => 0), (0, 0))
def pEnd (u : PS) : Txt ⊕ (Int × Int) := if uW u ≠ 0 then .inr (uW u, uV u) else pCor u (uC u).toNat 0
/-- a text that is read, or a fault and its token -/
def pRead : Txt ⊕ (Int × Int) := rb (pRun K V I 402 0 u0) pEnd
end PURE3
