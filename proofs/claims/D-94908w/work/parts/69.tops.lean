/-! STREETS: who lies uppermost, whose a piece is: plain laws -/
set_option maxRecDepth 100000
theorem sumI_le {n : Int} {f g : Int → Int} (hn : 0 ≤ n) (h : ∀ k : Int, 0 ≤ k → k < n → f k ≤ g k) : sumI n f ≤ sumI n g := by
  suffices H : ∀ m : Nat, (m : Int) ≤ n → sumN m f ≤ sumN m g from H n.toNat (by omega)
  intro m
  induction m with
  | zero => intro _; exact Int.le_refl _
  | succ m ih =>
    intro hm
    have h1 := ih (by omega)
    have h2 := h m (by omega) (by omega)
    show sumN m f + f m ≤ sumN m g + g m
    omega
theorem sumI_lt {n c k0 : Int} {f g : Int → Int} (hn : 0 ≤ k0 ∧ k0 < n) (h : ∀ k : Int, 0 ≤ k → k < n → f k ≤ g k) (hc : f k0 + c ≤ g k0) : sumI n f + c ≤ sumI n g := by
  suffices H : ∀ m : Nat, (m : Int) ≤ n → sumN m f ≤ sumN m g ∧ (k0 < m → sumN m f + c ≤ sumN m g) from (H n.toNat (by omega)).2 (by omega)
  intro m
  induction m with
  | zero => intro _; exact ⟨Int.le_refl _, fun z => by omega⟩
  | succ m ih =>
    intro hm
    obtain ⟨h1, h3⟩ := ih (by omega)
    have h2 := h m (by omega) (by omega)
    show sumN m f + f m ≤ sumN m g + g m ∧ (k0 < ((m + 1 : Nat) : Int) → sumN m f + f m + c ≤ sumN m g + g m)
    refine ⟨by omega, fun z => ?_⟩
    by_cases e : k0 = m
    · rw [e] at hc
      omega
    · have := h3 (by omega)
      omega
theorem sumI_app {a c : Int} (f : Int → Int) (ha : 0 ≤ a) (hc : 0 ≤ c) : sumI (a + c) f = sumI a f + sumI c (fun k => f (a + k)) := by
  obtain ⟨n, rfl⟩ : ∃ n : Nat, c = n := ⟨c.toNat, by omega⟩
  clear hc
  induction n with
  | zero => rw [show a + ((0 : Nat) : Int) = a by omega, show ((0 : Nat) : Int) = 0 by rfl, sumI_0]; omega
  | succ n ih =>
    rw [show a + ((n + 1 : Nat) : Int) = (a + n) + 1 by omega, sumI_s f (by omega), ih, show ((n + 1 : Nat) : Int) = (n : Int) + 1 by omega, sumI_s _ (by omega)]
    omega
theorem sumI_two (f : Int → Int) (n : Nat) : sumI (2 * (n : Int)) f = sumI n (fun k => f (2 * k)) + sumI n (fun k => f (2 * k + 1)) := by
  induction n with
  | zero => rfl
  | succ n ih =>
    rw [show 2 * (((n + 1 : Nat)) : Int) = (2 * (n : Int) + 1) + 1 by omega, sumI_s f (by omega), sumI_s f (by omega), ih, show ((n + 1 : Nat) : Int) = (n : Int) + 1 by omega, sumI_s _ (by omega), sumI_s _ (by omega)]
    omega
/-- the twin's street, as the component numbers it -/
def sI (s : Int) : Int := if s < 144 then 2 * s else 2 * (s - 144) + 1
theorem s2_sI {s : Int} (h : 0 ≤ s ∧ s < 288) : s2 (sI s) = s ∧ (0 ≤ sI s ∧ sI s < 288) := by
  unfold sI s2
  split <;> omega
theorem sum_sI (f : Int → Int) : sumI 288 (fun s => f (sI s)) = sumI 288 f := by
  have h1 := sumI_two f 144
  have h2 := sumI_app (a := 144) (c := 144) (fun s => f (sI s)) (by omega) (by omega)
  rw [show (2 * ((144 : Nat) : Int)) = 288 by rfl] at h1
  rw [show (144 + 144 : Int) = 288 by rfl] at h2
  have e1 : sumI 144 (fun s => f (sI s)) = sumI ((144 : Nat) : Int) (fun k => f (2 * k)) := sumI_congr fun k z0 z1 => by
    unfold sI
    rw [if_pos z1]
  have e2 : sumI 144 (fun k => f (sI (144 + k))) = sumI ((144 : Nat) : Int) (fun k => f (2 * k + 1)) := sumI_congr fun k z0 z1 => by
    unfold sI
    rw [if_neg (by omega)]
    congr 1
    omega
  rw [h1, h2, e1, e2]
section TOPS
variable {T : Txt} {S : Row} {b q : Int}
/-- how many pieces lie on a street -/
def cntR (T : Txt) (S : Row) (sv : Int) : Int := othR S (tM T) sv (-1) 1
/-- how many lie there ahead of a time -/
def undR (T : Txt) (S : Row) (sv tv : Int) : Int := othR S (tM T) sv tv 0
theorem arS_le {M : Int} {n : Int → Int} {s t : Int → Int → Int} {sv tv ab tv' ab' : Int} (hM : 0 ≤ M) (hn : ∀ o, 0 ≤ o → o < M → 0 ≤ n o) (h : ∀ o k, 0 ≤ o → o < M → 0 ≤ k → k < n o → arF s t sv tv ab o k ≤ arF s t sv tv' ab' o k) {o0 k0 : Int} (ho : 0 ≤ o0 ∧ o0 < M) (hk : 0 ≤ k0 ∧ k0 < n o0) {c : Int} (hc : arF s t sv tv ab o0 k0 + c ≤ arF s t sv tv' ab' o0 k0) : arS M n s t sv tv ab + c ≤ arS M n s t sv tv' ab' := by
  unfold arS
  refine sumI_lt ho (fun o z0 z1 => ?_) ?_
  · exact sumI_le (hn o z0 z1) (fun k y0 y1 => h o k z0 z1 y0 y1)
  · exact sumI_lt hk (fun k y0 y1 => h o0 k ho.1 ho.2 y0 y1) hc
theorem RowI.nn (hI : RowI T S b q) (hT : TxtI T) : ∀ o, 0 ≤ o → o < tM T → 0 ≤ rN S o := fun o z0 z1 => (hI.n60 hT o z0 (by have := hT.1; omega)).1
theorem und_cnt (hI : RowI T S b q) (hT : TxtI T) {m k sv : Int} (hm : 0 ≤ m ∧ m < tM T) (hk : 0 ≤ k ∧ k < rN S m) (hs : rS S m k = sv) : undR T S sv (rT S m k) + 1 ≤ cntR T S sv := by
  refine arS_le hT.1.1 (hI.nn hT) (fun o j z0 z1 z2 z3 => ?_) hm hk ?_
  · have := (hI.2.2.1 o j z0 z1 z2 z3).2.1
    unfold arF
    simp only [if_true, Int.reduceEq, if_false]
    (repeat' split) <;> omega
  · have := (hI.2.2.1 m k hm.1 hm.2 hk.1 hk.2).2.1
    unfold arF
    simp only [if_true, Int.reduceEq, if_false]
    rw [if_neg (by omega), if_pos (by omega)]
    omega
theorem und_lt (hI : RowI T S b q) (hT : TxtI T) {m k o j sv : Int} (hm : 0 ≤ m ∧ m < tM T) (hk : 0 ≤ k ∧ k < rN S m) (hs : rS S m k = sv) (ht : rT S m k < rT S o j) : undR T S sv (rT S m k) + 1 ≤ undR T S sv (rT S o j) := by
  refine arS_le hT.1.1 (hI.nn hT) (fun o j z0 z1 z2 z3 => ?_) hm hk ?_
  · unfold arF
    simp only [if_true]
    (repeat' split) <;> omega
  · unfold arF
    simp only [if_true]
    rw [if_neg (by omega), if_pos (by omega)]
    omega
theorem sumI_one {n c : Int} (hn : 0 ≤ n) {f : Int → Int} (h : ∀ k : Int, 0 ≤ k → k < n → k ≠ c → f k = 0) (h1 : 0 ≤ c ∧ c < n → f c ≤ 1) : sumI n f ≤ 1 := by
  suffices H : ∀ m : Nat, (m : Int) ≤ n → sumN m f ≤ (if c < m then 1 else 0) by
    have := H n.toNat (by omega)
    unfold sumI
    split at this <;> omega
  intro m
  induction m with
  | zero => intro _; show (0 : Int) ≤ _; split <;> omega
  | succ m ih =>
    intro hm
    have i1 := ih (by omega)
    show sumN m f + f m ≤ _
    by_cases e : c = m
    · subst e
      have := h1 ⟨by omega, by omega⟩
      rw [if_neg (by omega)] at i1
      rw [if_pos (by omega)]
      omega
    · rw [h m (by omega) (by omega) (fun z => e z.symm)]
      split at i1
      · rw [if_pos (by omega)]
        omega
      · split <;> omega
theorem sumI_add {n : Int} (f g : Int → Int) : sumI n (fun k => f k + g k) = sumI n f + sumI n g := by
  unfold sumI
  induction n.toNat with
  | zero => rfl
  | succ m ih =>
    show sumN m _ + (f m + g m) = (sumN m f + f m) + (sumN m g + g m)
    rw [ih]
    omega
/-- the latest piece on a street -/
def lateP (T : Txt) (S : Row) (sv m i : Int) : Prop := (0 ≤ m ∧ m < tM T) ∧ (0 ≤ i ∧ i < rN S m) ∧ rS S m i = sv ∧ ∀ o j, 0 ≤ o → o < tM T → 0 ≤ j → j < rN S o → rS S o j = sv → rT S o j ≤ rT S m i
theorem late_ex (hI : RowI T S b q) {sv : Int} : ∀ (n : Nat) (m i : Int), 0 ≤ m → m < tM T → 0 ≤ i → i < rN S m → rS S m i = sv → rQ S - rT S m i ≤ n → ∃ m i, lateP T S sv m i
  | 0, m, i, h0, h1, h2, h3, h4, h5 => by
    have := (hI.2.2.1 m i h0 h1 h2 h3).2.1
    omega
  | n + 1, m, i, h0, h1, h2, h3, h4, h5 => by
    by_cases e : ∀ o j, 0 ≤ o → o < tM T → 0 ≤ j → j < rN S o → rS S o j = sv → rT S o j ≤ rT S m i
    · exact ⟨m, i, ⟨h0, h1⟩, ⟨h2, h3⟩, h4, e⟩
    · obtain ⟨o, e⟩ := Classical.not_forall.mp e
      obtain ⟨j, e⟩ := Classical.not_forall.mp e
      by_cases e0 : 0 ≤ o
      · by_cases e1 : o < tM T
        · by_cases e2 : 0 ≤ j
          · by_cases e3 : j < rN S o
            · by_cases e4 : rS S o j = sv
              · by_cases e5 : rT S o j ≤ rT S m i
                · exact absurd (fun _ _ _ _ _ => e5) e
                · exact late_ex hI n o j e0 e1 e2 e3 e4 (by omega)
              · exact absurd (fun _ _ _ _ z => absurd z e4) e
            · exact absurd (fun _ _ _ z => absurd z e3) e
          · exact absurd (fun _ _ z => absurd z e2) e
        · exact absurd (fun _ z => absurd z e1) e
      · exact absurd (fun z => absurd z e0) e
theorem late_und (hI : RowI T S b q) (hT : TxtI T) {sv m i : Int} (h : lateP T S sv m i) : undR T S sv (rT S m i) = cntR T S sv - 1 := by
  obtain ⟨hm, hi, hs, hl⟩ := h
  have h1 := und_cnt hI hT hm hi hs
  have h2 : cntR T S sv ≤ undR T S sv (rT S m i) + 1 := by
    have e1 : cntR T S sv ≤ sumI (tM T) (fun o => sumI (rN S o) (arF (rS S) (rT S) sv (rT S m i) 0 o) + sumI (rN S o) (fun k => if o = m ∧ k = i then 1 else 0)) := by
      refine sumI_le hT.1.1 fun o z0 z1 => ?_
      rw [← sumI_add]
      refine sumI_le (hI.nn hT o z0 z1) fun k y0 y1 => ?_
      unfold arF
      simp only [if_true, Int.reduceEq, if_false]
      by_cases e : rS S o k = sv
      · have e2 := hl o k z0 z1 y0 y1 e
        by_cases e3 : rT S o k = rT S m i
        · have := hI.2.2.2.1 o k m i z0 z1 y0 y1 hm.1 hm.2 hi.1 hi.2 e3
          rw [if_pos (c := o = m ∧ k = i) this]
          (repeat' split) <;> omega
        · rw [if_pos (c := rS S o k = sv ∧ rT S o k < rT S m i) ⟨e, by omega⟩]
          (repeat' split) <;> omega
      · rw [if_neg (fun z => e z.1)]
        (repeat' split) <;> omega
    rw [sumI_add] at e1
    have e2 : sumI (tM T) (fun o => sumI (rN S o) (fun k => if o = m ∧ k = i then 1 else 0)) ≤ 1 := by
      refine sumI_one (c := m) hT.1.1 (fun o z0 z1 z2 => ?_) (fun z => ?_)
      · have := sumI_bd (n := rN S o) (b := 0) (f := fun k => if o = m ∧ k = i then 1 else 0) (hI.nn hT o z0 z1) (fun k _ _ => by rw [if_neg (fun y => z2 y.1)]; omega)
        omega
      · refine sumI_one (c := i) (hI.nn hT m z.1 z.2) (fun k y0 y1 y2 => ?_) (fun y => ?_)
        · rw [if_neg (fun y => y2 y.2)]
        · split <;> omega
    have e3 : undR T S sv (rT S m i) = sumI (tM T) (fun o => sumI (rN S o) (arF (rS S) (rT S) sv (rT S m i) 0 o)) := rfl
    omega
  omega
/-- whose the piece is that has u under it on the street -/
def whoP (T : Txt) (S : Row) (sv u r : Int) : Prop :=
  (r = -1 ∧ ∀ m k, 0 ≤ m → m < tM T → 0 ≤ k → k < rN S m → rS S m k = sv → undR T S sv (rT S m k) ≠ u) ∨
  ((0 ≤ r ∧ r < tM T) ∧ (∃ i, 0 ≤ i ∧ i < rN S r ∧ rS S r i = sv ∧ undR T S sv (rT S r i) = u) ∧ ∀ m k, 0 ≤ m → m < r → 0 ≤ k → k < rN S m → rS S m k = sv → undR T S sv (rT S m k) ≠ u)
theorem whoP_one {sv u r r' : Int} (h : whoP T S sv u r) (h' : whoP T S sv u r') : r = r' := by
  rcases h with ⟨e1, a1⟩ | ⟨a0, ⟨i, a1, a2, a3, a4⟩, a5⟩ <;> rcases h' with ⟨e2, b1⟩ | ⟨b0, ⟨j, b1, b2, b3, b4⟩, b5⟩
  · omega
  · exact absurd b4 (a1 r' j b0.1 b0.2 b1 b2 b3)
  · exact absurd a4 (b1 r i a0.1 a0.2 a1 a2 a3)
  · rcases Int.lt_trichotomy r r' with z | z | z
    · exact absurd a4 (b5 r i a0.1 z a1 a2 a3)
    · exact z
    · exact absurd b4 (a5 r' j b0.1 z b1 b2 b3)
noncomputable def whoR (T : Txt) (S : Row) (sv u : Int) : Int := Classical.epsilon (whoP T S sv u)
theorem whoR_eq {sv u r : Int} (h : whoP T S sv u r) : whoR T S sv u = r := whoP_one (Classical.epsilon_spec ⟨r, h⟩) h
theorem topP_one (hI : RowI T S b q) {sv r r' : Int} (h : topP T S sv r) (h' : topP T S sv r') : r = r' := by
  rcases h with ⟨e1, a1⟩ | ⟨a0, a0', i, a1, a2, a3, a4⟩ <;> rcases h' with ⟨e2, b1⟩ | ⟨b0, b0', j, b1, b2, b3, b4⟩
  · omega
  · exact absurd b3 (a1 r' j b0 b0' b1 b2)
  · exact absurd a3 (b1 r i a0 a0' a1 a2)
  · have g1 := a4 r' j b0 b0' b1 b2 b3
    have g2 := b4 r i a0 a0' a1 a2 a3
    exact (hI.2.2.2.1 r i r' j a0 a0' a1 a2 b0 b0' b1 b2 (by omega)).1
noncomputable def topR (T : Txt) (S : Row) (sv : Int) : Int := Classical.epsilon (topP T S sv)
theorem topR_eq (hI : RowI T S b q) {sv r : Int} (h : topP T S sv r) : topR T S sv = r := topP_one hI (Classical.epsilon_spec ⟨r, h⟩) h
theorem who_top (hI : RowI T S b q) (hT : TxtI T) {sv r : Int} (h : whoP T S sv (cntR T S sv - 1) r) : topP T S sv (if r = -1 then -2 else r) := by
  rcases h with ⟨e1, a1⟩ | ⟨a0, ⟨i, a1, a2, a3, a4⟩, a5⟩
  · rw [if_pos e1]
    refine Or.inl ⟨rfl, fun m k h0 h1 h2 h3 h4 => ?_⟩
    obtain ⟨m', i', hl⟩ := late_ex hI (rQ S - rT S m k).toNat m k h0 h1 h2 h3 h4 (by omega)
    exact a1 m' i' hl.1.1 hl.1.2 hl.2.1.1 hl.2.1.2 hl.2.2.1 (late_und hI hT hl)
  · rw [if_neg (by omega)]
    refine Or.inr ⟨a0.1, a0.2, i, a1, a2, a3, fun m k h0 h1 h2 h3 h4 => ?_⟩
    rcases Int.lt_or_le (rT S r i) (rT S m k) with z | z
    · have g1 := und_lt (o := m) (j := k) hI hT a0 ⟨a1, a2⟩ a3 z
      have g2 := und_cnt hI hT ⟨h0, h1⟩ ⟨h2, h3⟩ h4
      omega
    · exact z
/-- the twin's word for it -/
noncomputable def topX (T : Txt) (S : Row) (sv : Int) : Int := if topR T S sv = -2 then -1 else topR T S sv
theorem topX_eq (hI : RowI T S b q) (hT : TxtI T) {sv r : Int} (h : whoP T S sv (cntR T S sv - 1) r) : r = topX T S sv ∧ (topR T S sv = -2 ∨ (0 ≤ topR T S sv ∧ topR T S sv < tM T)) := by
  have e := topR_eq hI (who_top hI hT h)
  unfold topX
  rw [e]
  rcases h with ⟨e1, -⟩ | ⟨a0, -⟩
  · rw [if_pos e1, if_pos rfl]
    exact ⟨e1, Or.inl rfl⟩
  · rw [if_neg (show ¬ r = -1 by omega), if_neg (by omega)]
    exact ⟨rfl, Or.inr a0⟩
end TOPS
