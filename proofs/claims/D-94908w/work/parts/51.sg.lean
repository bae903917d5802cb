/-! THE WHOLE STATE, on both sides; keeps -/
set_option maxRecDepth 100000
/-- text, row; undos: how many, which; slots; told: how many, man, other, over; tape: how much, bytes; place -/
abbrev Sg : Type := (Txt × Row) × (Int × (Int → Row)) × (Int → Option Row) × (Int × (Int → Int) × (Int → Int) × (Int → Int)) × (Int × (Int → Int)) × Int
def gT (g : Sg) : Txt := g.1.1
def gS (g : Sg) : Row := g.1.2
def gN (g : Sg) : Int := g.2.1.1
def gH (g : Sg) : Int → Row := g.2.1.2
def gL (g : Sg) : Int → Option Row := g.2.2.1
def gK (g : Sg) : Int := g.2.2.2.1.1
def gM (g : Sg) : Int → Int := g.2.2.2.1.2.1
def gO (g : Sg) : Int → Int := g.2.2.2.1.2.2.1
def gV (g : Sg) : Int → Int := g.2.2.2.1.2.2.2
def gD (g : Sg) : Int := g.2.2.2.2.1.1
def gB (g : Sg) : Int → Int := g.2.2.2.2.1.2
def gP (g : Sg) : Int := g.2.2.2.2.2
/-- another row -/
def setS (g : Sg) (S : Row) : Sg := ((g.1.1, S), g.2)
def setH (g : Sg) (n : Int) (H : Int → Row) : Sg := (g.1, (n, H), g.2.2)
def setL (g : Sg) (l : Int → Option Row) : Sg := (g.1, g.2.1, l, g.2.2.2)
def setK (g : Sg) (n : Int) (M O V : Int → Int) : Sg := (g.1, g.2.1, g.2.2.1, (n, M, O, V), g.2.2.2.2)
def setD (g : Sg) (n : Int) (B : Int → Int) : Sg := (g.1, g.2.1, g.2.2.1, g.2.2.2.1, (n, B), g.2.2.2.2.2)
/-- the row is kept -/
def pushN (n : Int) : Int := if n = 30 then 30 else n + 1
def pushH (n : Int) (H : Int → Row) (S : Row) : Int → Row := fun k => if n = 30 then (if k = 29 then S else H (k + 1)) else if k = n then S else H k
def pushG (g : Sg) : Sg := setH g (pushN (gN g)) (pushH (gN g) (gH g) (gS g))
def SgI (g : Sg) (b q : Int) : Prop :=
  TxtI (gT g) ∧ RowI (gT g) (gS g) b q ∧ (0 ≤ gN g ∧ gN g ≤ 30) ∧ (∀ k, 0 ≤ k → k < gN g → RowI (gT g) (gH g k) b q) ∧ (∀ i R, gL g i = some R → RowI (gT g) R b q) ∧
  (0 ≤ gK g ∧ gK g ≤ 12) ∧ (∀ i, 0 ≤ i → i < gK g → ((0 ≤ gM g i ∧ gM g i < tM (gT g)) ∧ (0 ≤ gO g i ∧ gO g i < tM (gT g)) ∧ gM g i ≠ gO g i) ∧ (0 ≤ gV g i ∧ gV g i ≤ 1)) ∧ (0 ≤ gD g ∧ gD g ≤ 2000)
/-- the cloth of the k-th kept row -/
def pcA (x u n k : Int) : Int := x + 275 + 31 * ((u + 30 - n + k) % 30)
def CoI (L : am_L) (h : am_H) (x t : Int) (g : Sg) : Prop :=
  CoT L h x t (gT g) (gS g) ∧ (h x 5 = gN g ∧ (0 ≤ h x 6 ∧ h x 6 < 30) ∧ ∀ k, 0 ≤ k → k < gN g → RC L h (pcA x (h x 6) (gN g) k) (gT g) (gH g k)) ∧
  (∀ i, 0 ≤ i → i < 3 → (gL g i = none ∧ h (x + 180) i = 0) ∨ ∃ R, gL g i = some R ∧ h (x + 180) i = 1 ∧ RC L h (x + 81 + 31 * i) (gT g) R) ∧
  (h x 20 = gK g ∧ ∀ i, 0 ≤ i → i < gK g → h (x + 271) i = gM g i ∧ h (x + 272) i = gO g i ∧ h (x + 274) i = gV g i) ∧ (h (x + 2) 2 = gD g ∧ ∀ i, 0 ≤ i → i < gD g → h (x + 4) i = gB g i) ∧ h x 4 = gP g
def TwI (L : am_L) (h : am_H) (o s : Int) (g : Sg) : Prop :=
  TwT L h o s (gT g) (gS g) ∧ (h o 58 = gN g ∧ ∀ k, 0 ≤ k → k < gN g → RwF (fun i => h (o + 40) (1290 * k + i)) (tM (gT g)) (gH g k)) ∧
  (∀ i, 0 ≤ i → i < 3 → (gL g i = none ∧ h (o + 51) i = 0) ∨ ∃ R, gL g i = some R ∧ h (o + 51) i = 1 ∧ RwF (fun j => h (o + 52) (1290 * i + j)) (tM (gT g)) R) ∧
  (h o 69 = gK g ∧ ∀ i, 0 ≤ i → i < gK g → h (o + 48) i = gM g i ∧ h (o + 49) i = gO g i ∧ h (o + 50) i = gV g i) ∧ (h o 2 = gD g ∧ ∀ i, 0 ≤ i → i < gD g → h (o + 1) i = gB g i) ∧ h o 17 = gP g
def FX (h h' : am_H) (x : Int) : Prop := ∀ a, (a < x ∨ x + 1205 ≤ a) → h' a = h a
def FO (h h' : am_H) (o : Int) : Prop := ∀ a, (a < o ∨ o + 53 ≤ a ∨ (o + 3 ≤ a ∧ a ≤ o + 7)) → h' a = h a
theorem FX.tr {h h1 h2 : am_H} {x : Int} (a : FX h h1 x) (b : FX h1 h2 x) : FX h h2 x := fun y z => (b y z).trans (a y z)
theorem FO.tr {h h1 h2 : am_H} {x : Int} (a : FO h h1 x) (b : FO h1 h2 x) : FO h h2 x := fun y z => (b y z).trans (a y z)
theorem FrS.fx {h h' : am_H} {x : Int} (a : FrS h h' x) : FX h h' x := fun y z => by funext i; exact a y i ⟨by omega, by omega⟩
theorem FrW.fo {h h' : am_H} {x : Int} (a : FrW h h' x) : FO h h' x := fun y z => by funext i; exact a y i ⟨by omega, by omega⟩
theorem FrC.fx {h h' : am_H} {x c : Int} (a : FrC h h' c) (hc : x ≤ c ∧ c + 31 ≤ x + 1205) : FX h h' x := fun y z => a y (by omega)
section SGS
variable {G : am_G} {d : Nat} {L : am_L} {h h' : am_H} {Q : am_O → am_L → am_H → Prop} {x o s t : Int} {g : Sg} {b q : Int}
theorem pcA_rg {u n k : Int} : x + 275 ≤ pcA x u n k ∧ pcA x u n k ≤ x + 1174 := by unfold pcA; omega
/-- CoI from one heap to another -/
theorem CoI.mv (r : CoI L h x t g) (hT : TxtI (gT g)) (h1 : ∀ i, i ≠ 17 → i ≠ 18 → h' x i = h x i) (h2 : ∀ a, (x < a ∧ a < x + 46) ∨ (x + 79 ≤ a ∧ a < x + 181) ∨ (x + 271 ≤ a ∧ a < x + 1205 ∧ a ≠ x + 273) → h' a = h a) : CoI L h' x t g := by
  obtain ⟨⟨a1, a2, a3, a4⟩, ⟨b1, b2, b3⟩, c, ⟨d1, d2⟩, ⟨e1, e2⟩, f⟩ := r
  refine ⟨⟨a1, by rw [h1 _ (by omega) (by omega)]; exact a2, a3, a4.fr fun a z0 z1 => h2 a (by omega)⟩, ⟨by rw [h1 _ (by omega) (by omega)]; exact b1, by rw [h1 _ (by omega) (by omega)]; exact b2, fun k z0 z1 => ?_⟩, fun i z0 z1 => ?_, ⟨by rw [h1 _ (by omega) (by omega)]; exact d1, fun i z0 z1 => ?_⟩, ⟨by rw [h2 (x + 2) (by omega)]; exact e1, fun i z0 z1 => ?_⟩, by rw [h1 _ (by omega) (by omega)]; exact f⟩
  · rw [h1 _ (by omega) (by omega)]
    have := pcA_rg (x := x) (u := h x 6) (n := gN g) (k := k)
    exact (b3 k z0 z1).fr fun a z2 z3 => h2 a (by omega)
  · rw [h2 (x + 180) (by omega)]
    rcases c i z0 z1 with z | ⟨R, z2, z3, z4⟩
    · exact Or.inl z
    · exact Or.inr ⟨R, z2, z3, z4.fr fun a z2 z3 => h2 a (by omega)⟩
  · rw [h2 (x + 271) (by omega), h2 (x + 272) (by omega), h2 (x + 274) (by omega)]
    exact d2 i z0 z1
  · rw [h2 (x + 4) (by omega)]
    exact e2 i z0 z1
theorem CoI.fr (r : CoI L h x t g) (hT : TxtI (gT g)) (hf : FrS h h' x) : CoI L h' x t g :=
  r.mv hT (fun i z0 z1 => hf x i ⟨by omega, fun _ => ⟨z0, z1⟩⟩) (fun a z => by funext i; exact hf a i ⟨by omega, by omega⟩)
/-- the cloth alone -/
theorem CoI.setS (r : CoI L h x t g) {S : Row} (hr : RC L h' (x + 17) (gT g) S) (hf : FrC h h' (x + 17)) : CoI L h' x t (setS g S) := by
  obtain ⟨⟨a1, a2, a3, a4⟩, ⟨b1, b2, b3⟩, c, ⟨d1, d2⟩, ⟨e1, e2⟩, f⟩ := r
  have hx : h' x = h x := hf x (by omega)
  refine ⟨⟨a1, by rw [hx]; exact a2, a3, hr⟩, ⟨by rw [hx]; exact b1, by rw [hx]; exact b2, fun k z0 z1 => ?_⟩, fun i z0 z1 => ?_, ⟨by rw [hx]; exact d1, fun i z0 z1 => ?_⟩, ⟨by rw [hf (x + 2) (by omega)]; exact e1, fun i z0 z1 => ?_⟩, by rw [hx]; exact f⟩
  · rw [hx]
    have := pcA_rg (x := x) (u := h x 6) (n := gN g) (k := k)
    exact (b3 k z0 z1).fr fun a z2 z3 => hf a (by omega)
  · rw [hf (x + 180) (by omega)]
    rcases c i z0 z1 with z | ⟨R, z2, z3, z4⟩
    · exact Or.inl z
    · exact Or.inr ⟨R, z2, z3, z4.fr fun a z2 z3 => hf a (by omega)⟩
  · rw [hf (x + 271) (by omega), hf (x + 272) (by omega), hf (x + 274) (by omega)]
    exact d2 i z0 z1
  · rw [hf (x + 4) (by omega)]
    exact e2 i z0 z1
theorem TwI.mv (r : TwI L h o s g) (hT : TxtI (gT g)) (hf : FrW h h' o) : TwI L h' o s g := by
  obtain ⟨a, ⟨b1, b3⟩, c, ⟨d1, d2⟩, ⟨e1, e2⟩, f⟩ := r
  have hx : ∀ i, i ≠ 54 → i ≠ 64 → i ≠ 65 → h' o i = h o i := fun i z0 z1 z2 => hf o i ⟨by omega, fun _ => ⟨z0, z1, z2⟩⟩
  have ha : ∀ y, o < y → (y < o + 35 ∨ y = o + 37 ∨ y = o + 40 ∨ o + 48 ≤ y) → h' y = h y := fun y z0 z1 => by funext i; exact hf y i ⟨by omega, by omega⟩
  refine ⟨a.fr hf, ⟨by rw [hx _ (by omega) (by omega) (by omega)]; exact b1, fun k z0 z1 => ?_⟩, fun i z0 z1 => ?_, ⟨by rw [hx _ (by omega) (by omega) (by omega)]; exact d1, fun i z0 z1 => ?_⟩, ⟨by rw [hx _ (by omega) (by omega) (by omega)]; exact e1, fun i z0 z1 => ?_⟩, by rw [hx _ (by omega) (by omega) (by omega)]; exact f⟩
  · rw [ha (o + 40) (by omega) (by omega)]
    exact b3 k z0 z1
  · rw [ha (o + 51) (by omega) (by omega), ha (o + 52) (by omega) (by omega)]
    exact c i z0 z1
  · rw [ha (o + 48) (by omega) (by omega), ha (o + 49) (by omega) (by omega), ha (o + 50) (by omega) (by omega)]
    exact d2 i z0 z1
  · rw [ha (o + 1) (by omega) (by omega)]
    exact e2 i z0 z1
end SGS
