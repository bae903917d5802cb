/-! OPERATIONS: feed, back; what a side's text rests on -/
set_option maxRecDepth 100000
section SIDE
variable {L : am_L} {h h' : am_H} {o s : Int} {T : Txt}
/-- what of the twin tells the side s -/
def sdR (o s a i : Int) : Prop := ((a = o + 9 ∨ a = o + 10 ∨ a = o + 11 ∨ a = o + 18 ∨ a = o + 21) ∧ i = s) ∨ ((o + 12 ≤ a ∧ a ≤ o + 15) ∧ 7 * s ≤ i ∧ i < 7 * s + 7) ∨ ((a = o + 16 ∨ a = o + 17) ∧ 42 * s ≤ i ∧ i < 42 * s + 42) ∨ ((a = o + 19 ∨ a = o + 20) ∧ 6 * s ≤ i ∧ i < 6 * s + 6) ∨ ((a = o + 25 ∨ a = o + 26) ∧ 8 * s ≤ i ∧ i < 8 * s + 8) ∨ ((o + 27 ≤ a ∧ a ≤ o + 31) ∧ 130 * s ≤ i ∧ i < 130 * s + 130) ∨ ((a = o + 32 ∨ a = o + 33) ∧ 420 * s ≤ i ∧ i < 420 * s + 420)
theorem SegT.sd (g : ∀ a i, sdR o s a i → h' a i = h a i) {a b : Int} {ta : Tau} (r : SegT h o s a b ta) : SegT h' o s a b ta := by
  obtain ⟨r1, r2, n, r3⟩ := r
  exact ⟨r1, r2, n, Seg.cg a b (fun i _ _ => ⟨g _ _ (by unfold sdR; omega), g _ _ (by unfold sdR; omega)⟩) n r3 (by omega) (by omega)⟩
theorem LwB.sd (g : ∀ a i, sdR o s a i → h' a i = h a i) {f l : Int} {la : Lam} (r : LwB h o s f l la) : LwB h' o s f l la := by
  obtain ⟨n, tl, tt, te, a1, a2, a3, a4, a5, a6, a7, a8⟩ := r
  refine ⟨n, tl, tt, te, a1, a2, a3, a4, a5, fun k h0 h1 => ?_, fun k h0 h1 => ?_, ?_⟩
  · obtain ⟨b1, b2, b3⟩ := a6 k h0 h1
    rw [g (o + 27) _ (by unfold sdR; omega), g (o + 28) _ (by unfold sdR; omega), g (o + 29) _ (by unfold sdR; omega), g (o + 30) _ (by unfold sdR; omega)]
    exact ⟨b1, b2.sd g, b3.sd g⟩
  · rw [g (o + 30) _ (by unfold sdR; omega), g (o + 31) _ (by unfold sdR; omega)]
    exact (a7 k h0 h1).sd g
  · rw [g (o + 27) _ (by unfold sdR; omega)]
    exact a8
theorem LawM.sd (g : ∀ a i, sdR o s a i → h' a i = h a i) {at_ : Int} (ha : 8 * s ≤ at_ ∧ at_ < 8 * s + 8) {ol : Option Lam} (r : LawM h o s at_ ol) : LawM h' o s at_ ol := by
  rcases r with ⟨r1, r2⟩ | ⟨la, r1, r2⟩
  · exact Or.inl ⟨r1, by rw [g (o + 25) _ (by unfold sdR; omega), g (o + 26) _ (by unfold sdR; omega)]; exact r2⟩
  · refine Or.inr ⟨la, r1, ?_⟩
    rw [g (o + 25) _ (by unfold sdR; omega), g (o + 26) _ (by unfold sdR; omega)]
    exact r2.sd g
theorem TxS.sd (g : ∀ a i, sdR o s a i → h' a i = h a i) (hT : TxtI T) (r : TxS h o s T) : TxS h' o s T := by
  obtain ⟨a1, a2, a3, a4, a5, a6, a7, a8⟩ := r
  have h7 := hT.1
  have hP := hT.2.2.2.2.1
  refine ⟨by rw [g (o + 11) _ (by unfold sdR; omega)]; exact a1, by rw [g (o + 9) _ (by unfold sdR; omega)]; exact a2, by rw [g (o + 10) _ (by unfold sdR; omega)]; exact a3, by rw [g (o + 18) _ (by unfold sdR; omega)]; exact a4, by rw [g (o + 21) _ (by unfold sdR; omega)]; exact a5, fun m h0 h1 => ?_, fun p h0 h1 => ?_, a8.sd g (by omega)⟩
  · obtain ⟨b1, b2, b3, b4, b5, b6⟩ := a6 m h0 h1
    have hE := (hT.2.2.2.2.2.1 m h0 h1).2.2.1
    rw [g (o + 12) _ (by unfold sdR; omega), g (o + 13) _ (by unfold sdR; omega), g (o + 14) _ (by unfold sdR; omega), g (o + 15) _ (by unfold sdR; omega)]
    refine ⟨b1, b2, b3, b4, fun k h2 h3 => ?_, b6.sd g (by omega)⟩
    rw [g (o + 16) _ (by unfold sdR; omega), g (o + 17) _ (by unfold sdR; omega)]
    exact b5 k h2 h3
  · rw [g (o + 19) _ (by unfold sdR; omega), g (o + 20) _ (by unfold sdR; omega)]
    exact a7 p h0 h1
theorem MdT.sd (g : ∀ a i, sdR o s a i → h' a i = h a i) (g2 : h' o 18 = h o 18) (hT : TxtI T) (r : MdT L h o s T) : MdT L h' o s T :=
  ⟨r.1, r.2.1, by rw [g2]; exact r.2.2.1, r.2.2.2.sd g hT⟩
end SIDE
section FEED
variable {G : am_G} {d : Nat} {L : am_L} {h h' : am_H} {Q : am_O → am_L → am_H → Prop} {x o s t : Int} {g : Sg} {b q : Int}
/-- a word typed on a tape of n bytes -/
def tyB (n : Int) (B : Int → Int) (v : Int) : Int → Int := fun i => if n ≤ i ∧ i < n + 4 then bI2b (bShr v (24 - 8 * (i - n))) else B i
theorem bI2b_rg (z : Int) : -128 ≤ bI2b z ∧ bI2b z ≤ 127 := ⟨by have := Int8.le_toInt (Int32.ofInt z).toInt8; unfold bI2b; omega, by have := Int8.toInt_lt (Int32.ofInt z).toInt8; unfold bI2b; omega⟩
set_option maxHeartbeats 4000000 in
theorem C_X0_typed {v n : Int} {B : Int → Int} (hK : MkL L x) (hn : 0 ≤ n ∧ n + 4 ≤ 2000) (h2 : h (x + 2) 2 = n) (hB : ∀ i, 0 ≤ i → i < n → h (x + 4) i = B i) (k : ∀ h', (∀ a, a ≠ x + 2 → a ≠ x + 4 → h' a = h a) → (∀ j, j ≠ 2 → h' (x + 2) j = h (x + 2) j) → h' (x + 2) 2 = n + 4 → (∀ i, 0 ≤ i → i < n + 4 → h' (x + 4) i = tyB n B v i) → Q (.inl []) L h') : am_C G mX0_typed (d + 1) [aR x, aI v] L h Q := by
  refine x_start okX0_typed rfl rfl rfl rfl ?_
  refine x_bipush dX0_typed_0 rfl ?_
  refine x_istore_2 dX0_typed_2 rfl ?_
  skip
  suffices H : ∀ (r : Nat) (j : Int) (hh : am_H), (r : Int) + j = 4 → 0 ≤ j → (∀ a, a ≠ x + 2 → a ≠ x + 4 → hh a = h a) → (∀ j, j ≠ 2 → hh (x + 2) j = h (x + 2) j) → hh (x + 2) 2 = n + j → (∀ i, 0 ≤ i → i < n + j → hh (x + 4) i = tyB n B v i) → am_X G mX0_typed (d + 1) 3 [aR x, aI v, aI (24 - 8 * j)] [] L hh Q from H 4 0 h (by omega) (by omega) (fun _ _ _ => rfl) (fun _ _ => rfl) (by omega) (fun i z0 z1 => by
    rw [hB i z0 (by omega)]
    unfold tyB
    rw [if_neg (by omega)])
  intro r
  induction r with
  | zero =>
    intro j hh z1 z2 z3 z4 z5 z6
    refine x_iload_2 dX0_typed_3 ?_
    refine x_if_lt (tgt := 45) dX0_typed_4 rfl (by omega) (fun c4 => ?_) (fun c4 => ?_)
    · refine x_ret dX0_typed_45 rfl ?_
      rw [show j = 4 by omega] at z5 z6
      exact k hh z3 z4 z5 z6
    · exfalso; omega
  | succ r ih =>
    intro j hh z1 z2 z3 z4 z5 z6
    refine x_iload_2 dX0_typed_3 ?_
    refine x_if_lt (tgt := 45) dX0_typed_4 rfl (by omega) (fun c4 => ?_) (fun c4 => ?_)
    · exfalso; omega
    · refine x_aload_0 dX0_typed_7 ?_
      refine x_getR dX0_typed_8 fl572_0 rfl (by first | (exact MkL.k0 (by assumption)) | (assumption)) (by first | (exact MkL.v_tokens (by assumption)) | (assumption)) ?_
      refine x_getR dX0_typed_11 fl261_2 rfl (by first | (exact MkL.k_tokens (by assumption)) | (assumption)) (by first | (exact MkL.v_tape (by assumption)) | (assumption)) ?_
      refine x_aload_0 dX0_typed_14 ?_
      refine x_getR dX0_typed_15 fl572_0 rfl (by first | (exact MkL.k0 (by assumption)) | (assumption)) (by first | (exact MkL.v_tokens (by assumption)) | (assumption)) ?_
      refine x_getI_ dX0_typed_18 fl263_2 (by first | (exact MkL.k_tokens (by assumption)) | (assumption)) (fun r18 => ?_)
      rw [z5] at r18 ⊢
      refine x_iload_1 dX0_typed_21 ?_
      refine x_iload_2 dX0_typed_22 ?_
      refine x_ishr dX0_typed_23 ?_
      refine x_i2b dX0_typed_24 ?_
      refine x_bast_ dX0_typed_25 (by first | (exact MkL.k_tape (by assumption)) | (assumption)) (by first | (exact MkL.x_tape (by assumption) (by omega) (by omega)) | (omega)) (by exact bI2b_rg _) ?_
      refine x_aload_0 dX0_typed_26 ?_
      refine x_getR dX0_typed_27 fl572_0 rfl (by first | (exact MkL.k0 (by assumption)) | (assumption)) (by first | (exact MkL.v_tokens (by assumption)) | (assumption)) ?_
      refine x_dup dX0_typed_30 rfl ?_
      refine x_getI_ dX0_typed_31 fl263_2 (by first | (exact MkL.k_tokens (by assumption)) | (assumption)) (fun r31 => ?_)
      simp (disch := omega) only [am_st_o, z5] at r31 ⊢
      refine x_iconst dX0_typed_34 ?_
      refine x_iadd dX0_typed_35 ?_
      refine x_putI_ dX0_typed_36 fl263_2 (by first | (exact MkL.k_tokens (by assumption)) | (assumption)) (by omega) ?_
      refine x_iinc2 dX0_typed_39 rfl ?_
      refine x_goto (tgt := 3) dX0_typed_42 rfl ?_
      rw [show 24 - 8 * j + -8 = 24 - 8 * (j + 1) by omega]
      refine ih (j + 1) _ (by omega) (by omega) (fun a y0 y1 => ?_) (fun i y0 => ?_) ?_ (fun i y0 y1 => ?_)
      · rw [am_st_o y0, am_st_o y1]
        exact z3 a y0 y1
      · rw [am_st_i y0, am_st_o (by omega)]
        exact z4 i y0
      · rw [am_st_s]
        omega
      · rw [am_st_o (by omega), am_st_at]
        by_cases e : i = n + j
        · rw [if_pos ⟨rfl, e⟩]
          unfold tyB
          rw [if_pos (by omega), show 24 - 8 * (i - n) = 24 - 8 * j by omega]
        · rw [if_neg (fun z => e z.2)]
          exact z6 i y0 (by omega)
set_option maxHeartbeats 4000000 in
theorem C_X13_put {v n : Int} {B : Int → Int} (hL : MdL L o) (hn : 0 ≤ n ∧ n + 4 ≤ 2000) (h2 : h o 2 = n) (hB : ∀ i, 0 ≤ i → i < n → h (o + 1) i = B i) (k : ∀ h', (∀ a, a ≠ o → a ≠ (o + 1) → h' a = h a) → (∀ j, j ≠ 2 → h' o j = h o j) → h' o 2 = n + 4 → (∀ i, 0 ≤ i → i < n + 4 → h' (o + 1) i = tyB n B v i) → Q (.inl []) L h') : am_C G mX13_put (d + 1) [aR o, aI v] L h Q := by
  refine x_start okX13_put rfl rfl rfl rfl ?_
  refine x_bipush dX13_put_0 rfl ?_
  refine x_istore_2 dX13_put_2 rfl ?_
  skip
  suffices H : ∀ (r : Nat) (j : Int) (hh : am_H), (r : Int) + j = 4 → 0 ≤ j → (∀ a, a ≠ o → a ≠ (o + 1) → hh a = h a) → (∀ j, j ≠ 2 → hh o j = h o j) → hh o 2 = n + j → (∀ i, 0 ≤ i → i < n + j → hh (o + 1) i = tyB n B v i) → am_X G mX13_put (d + 1) 3 [aR o, aI v, aI (24 - 8 * j)] [] L hh Q from H 4 0 h (by omega) (by omega) (fun _ _ _ => rfl) (fun _ _ => rfl) (by omega) (fun i z0 z1 => by
    rw [hB i z0 (by omega)]
    unfold tyB
    rw [if_neg (by omega)])
  intro r
  induction r with
  | zero =>
    intro j hh z1 z2 z3 z4 z5 z6
    refine x_iload_2 dX13_put_3 ?_
    refine x_if_lt (tgt := 36) dX13_put_4 rfl (by omega) (fun c4 => ?_) (fun c4 => ?_)
    · refine x_ret dX13_put_36 rfl ?_
      rw [show j = 4 by omega] at z5 z6
      exact k hh z3 z4 z5 z6
    · exfalso; omega
  | succ r ih =>
    intro j hh z1 z2 z3 z4 z5 z6
    refine x_iload_2 dX13_put_3 ?_
    refine x_if_lt (tgt := 36) dX13_put_4 rfl (by omega) (fun c4 => ?_) (fun c4 => ?_)
    · exfalso; omega
    · refine x_aload_0 dX13_put_7 ?_
      refine x_getR dX13_put_8 fl1575_13 rfl (by first | (exact MdL.k0 (by assumption)) | (assumption)) (by first | (exact MdL.v_tape (by assumption)) | (assumption)) ?_
      refine x_aload_0 dX13_put_11 ?_
      refine x_getI_ dX13_put_12 fl1576_13 (by first | (exact MdL.k0 (by assumption)) | (assumption)) (fun r12 => ?_)
      rw [z5] at r12 ⊢
      refine x_iload_1 dX13_put_15 ?_
      refine x_iload_2 dX13_put_16 ?_
      refine x_ishr dX13_put_17 ?_
      refine x_i2b dX13_put_18 ?_
      refine x_bast_ dX13_put_19 (by first | (exact MdL.k_tape (by assumption)) | (assumption)) (by first | (exact MdL.x_tape (by assumption) (by omega) (by omega)) | (omega)) (by exact bI2b_rg _) ?_
      refine x_aload_0 dX13_put_20 ?_
      refine x_dup dX13_put_21 rfl ?_
      refine x_getI_ dX13_put_22 fl1576_13 (by first | (exact MdL.k0 (by assumption)) | (assumption)) (fun r22 => ?_)
      simp (disch := omega) only [am_st_o, z5] at r22 ⊢
      refine x_iconst dX13_put_25 ?_
      refine x_iadd dX13_put_26 ?_
      refine x_putI_ dX13_put_27 fl1576_13 (by first | (exact MdL.k0 (by assumption)) | (assumption)) (by omega) ?_
      refine x_iinc2 dX13_put_30 rfl ?_
      refine x_goto (tgt := 3) dX13_put_33 rfl ?_
      rw [show 24 - 8 * j + -8 = 24 - 8 * (j + 1) by omega]
      refine ih (j + 1) _ (by omega) (by omega) (fun a y0 y1 => ?_) (fun i y0 => ?_) ?_ (fun i y0 y1 => ?_)
      · rw [am_st_o y0, am_st_o y1]
        exact z3 a y0 y1
      · rw [am_st_i y0, am_st_o (by omega)]
        exact z4 i y0
      · rw [am_st_s]
        omega
      · rw [am_st_o (by omega), am_st_at]
        by_cases e : i = n + j
        · rw [if_pos ⟨rfl, e⟩]
          unfold tyB
          rw [if_pos (by omega), show 24 - 8 * (i - n) = 24 - 8 * j by omega]
        · rw [if_neg (fun z => e z.2)]
          exact z6 i y0 (by omega)
theorem CoI.tape (r : CoI L h x t g) {n : Int} {B : Int → Int} (h1 : ∀ a, a ≠ x + 2 → a ≠ x + 4 → h' a = h a) (hd : h' (x + 2) 2 = n ∧ ∀ i, 0 ≤ i → i < n → h' (x + 4) i = B i) : CoI L h' x t (setD g n B) := by
  obtain ⟨⟨a1, a2, a3, a4⟩, ⟨b1, b2, b3⟩, c, ⟨d1, d2⟩, -, f⟩ := r
  have hx : h' x = h x := h1 x (by omega) (by omega)
  refine ⟨⟨a1, by rw [hx]; exact a2, a3, a4.fr fun a z0 z1 => h1 a (by omega) (by omega)⟩, ⟨by rw [hx]; exact b1, by rw [hx]; exact b2, fun k z0 z1 => ?_⟩, fun i z0 z1 => ?_, ⟨by rw [hx]; exact d1, fun i z0 z1 => ?_⟩, hd, by rw [hx]; exact f⟩
  · rw [hx]
    have := pcA_rg (x := x) (u := h x 6) (n := gN g) (k := k)
    exact (b3 k z0 z1).fr fun a z2 z3 => h1 a (by omega) (by omega)
  · rw [h1 (x + 180) (by omega) (by omega)]
    rcases c i z0 z1 with z | ⟨R, z2, z3, z4⟩
    · exact Or.inl z
    · exact Or.inr ⟨R, z2, z3, z4.fr fun a z2 z3 => h1 a (by omega) (by omega)⟩
  · rw [h1 (x + 271) (by omega) (by omega), h1 (x + 272) (by omega) (by omega), h1 (x + 274) (by omega) (by omega)]
    exact d2 i z0 z1
theorem TwI.tape (r : TwI L h o s g) (hT : TxtI (gT g)) {n : Int} {B : Int → Int} (h1 : ∀ a, a ≠ o → a ≠ (o + 1) → h' a = h a) (h2 : ∀ j, j ≠ 2 → h' o j = h o j) (hd : h' o 2 = n ∧ ∀ i, 0 ≤ i → i < n → h' (o + 1) i = B i) : TwI L h' o s (setD g n B) := by
  obtain ⟨⟨a1, a2⟩, ⟨b1, b3⟩, c, ⟨d1, d2⟩, -, f⟩ := r
  have wa : ∀ a, (o + 1) < a → h' a = h a := fun a z0 => h1 a (by omega) (by omega)
  refine ⟨⟨a1.sd (fun a i z => by unfold sdR at z; rw [wa a (by omega)]) (h2 _ (by omega)) hT, by rw [wa (o + 37) (by omega)]; exact a2⟩, ⟨by rw [h2 _ (by omega)]; exact b1, fun k z0 z1 => ?_⟩, fun i z0 z1 => ?_, ⟨by rw [h2 _ (by omega)]; exact d1, fun i z0 z1 => ?_⟩, hd, by rw [h2 _ (by omega)]; exact f⟩
  · rw [wa (o + 40) (by omega)]
    exact b3 k z0 z1
  · rw [wa (o + 51) (by omega), wa (o + 52) (by omega)]
    exact c i z0 z1
  · rw [wa (o + 48) (by omega), wa (o + 49) (by omega), wa (o + 50) (by omega)]
    exact d2 i z0 z1
def feedB (n : Int) (B : Int → Int) (u v w y z : Int) : Int → Int := tyB (n + 16) (tyB (n + 12) (tyB (n + 8) (tyB (n + 4) (tyB n B u) v) w) y) z
def feedG (g : Sg) (u v w y z : Int) : Sg := setD g (gD g + 20) (feedB (gD g) (gB g) u v w y z)
theorem SgI.setD (hI : SgI g b q) {n : Int} {B : Int → Int} (hn : 0 ≤ n ∧ n ≤ 2000) : SgI (setD g n B) b q := by
  obtain ⟨a1, a2, a3, a4, a5, a6, a7, a8⟩ := hI
  exact ⟨a1, a2, a3, a4, a5, a6, a7, hn⟩
set_option maxHeartbeats 4000000 in
theorem C_X0_feed {u v w y z : Int} (hC : CoI L h x t g) (hI : SgI g b q) (kt : gD g ≤ 1980 → ∀ h', CoI L h' x t (feedG g u v w y z) → FX h h' x → Q (.inl [aI (gD g + 20)]) L h') (kf : ¬ gD g ≤ 1980 → Q (.inl [aI (-1)]) L h) : am_C G mX0_feed (d + 430) [aR x, aI u, aI v, aI w, aI y, aI z] L h Q := by
  have hK := hC.1.mk
  obtain ⟨e1, e2⟩ := hC.2.2.2.2.1
  have bd := hI.2.2.2.2.2.2.2
  refine x_start okX0_feed rfl rfl rfl rfl ?_
  refine x_aload_0 dX0_feed_0 ?_
  refine x_getR dX0_feed_1 fl572_0 rfl (by first | (exact MkL.k0 (by assumption)) | (assumption)) (by first | (exact MkL.v_tokens (by assumption)) | (assumption)) ?_
  refine x_getI_ dX0_feed_4 fl263_2 (by first | (exact MkL.k_tokens (by assumption)) | (assumption)) (fun r4 => ?_)
  rw [e1] at r4 ⊢
  refine x_bipush dX0_feed_7 rfl ?_
  refine x_iadd dX0_feed_9 ?_
  refine x_sipush dX0_feed_10 rfl ?_
  refine x_icmp_le (tgt := 18) dX0_feed_13 rfl (by omega) (by omega) (fun c13 => ?_) (fun c13 => ?_)
  · refine x_aload_0 dX0_feed_18 ?_
    refine x_iload_1 dX0_feed_19 ?_
    refine x_callV1 dX0_feed_20 rfl okX0_typed q652 q654 qs2 (by first | assumption | (exact MkL.k0 (by assumption))) am_k0 rfl (C_X0_typed (B := gB g) hK ⟨bd.1, by omega⟩ e1 e2 (fun h1 a1 b1 c1 d1 => (x_k0 ?_)))
    refine x_aload_0 dX0_feed_23 ?_
    refine x_iload_2 dX0_feed_24 ?_
    refine x_callV1 dX0_feed_25 rfl okX0_typed q652 q654 qs2 (by first | assumption | (exact MkL.k0 (by assumption))) am_k0 rfl (C_X0_typed hK ⟨by omega, by omega⟩ c1 d1 (fun h2 a2 b2 c2 d2 => (x_k0 ?_)))
    refine x_aload_0 dX0_feed_28 ?_
    refine x_iload_3 dX0_feed_29 ?_
    refine x_callV1 dX0_feed_30 rfl okX0_typed q652 q654 qs2 (by first | assumption | (exact MkL.k0 (by assumption))) am_k0 rfl (C_X0_typed hK ⟨by omega, by omega⟩ c2 d2 (fun h3 a3 b3 c3 d3 => (x_k0 ?_)))
    refine x_aload_0 dX0_feed_33 ?_
    refine x_iload4 dX0_feed_34 ?_
    refine x_callV1 dX0_feed_36 rfl okX0_typed q652 q654 qs2 (by first | assumption | (exact MkL.k0 (by assumption))) am_k0 rfl (C_X0_typed hK ⟨by omega, by omega⟩ c3 d3 (fun h4 a4 b4 c4 d4 => (x_k0 ?_)))
    refine x_aload_0 dX0_feed_39 ?_
    refine x_iload5 dX0_feed_40 ?_
    refine x_callV1 dX0_feed_42 rfl okX0_typed q652 q654 qs2 (by first | assumption | (exact MkL.k0 (by assumption))) am_k0 rfl (C_X0_typed hK ⟨by omega, by omega⟩ c4 d4 (fun h5 a5 b5 c5 d5 => (x_k0 ?_)))
    refine x_aload_0 dX0_feed_45 ?_
    refine x_getR dX0_feed_46 fl572_0 rfl (by first | (exact MkL.k0 (by assumption)) | (assumption)) (by first | (exact MkL.v_tokens (by assumption)) | (assumption)) ?_
    refine x_getI_ dX0_feed_49 fl263_2 (by first | (exact MkL.k_tokens (by assumption)) | (assumption)) (fun r49 => ?_)
    refine x_iret dX0_feed_52 rfl ?_
    have hf : ∀ a, a ≠ x + 2 → a ≠ x + 4 → h5 a = h a := fun a z0 z1 => by rw [a5 a z0 z1, a4 a z0 z1, a3 a z0 z1, a2 a z0 z1, a1 a z0 z1]
    refine x_q1 (show h5 (x + 2) 2 = gD g + 20 by omega) (kt (by omega) h5 (hC.tape hf ⟨by omega, fun i z0 z1 => ?_⟩) (fun a z => hf a (by omega) (by omega)))
    have := d5 i z0 (by omega)
    rw [this]
    unfold feedB
    rw [show gD g + 4 + 4 + 4 + 4 = gD g + 16 by omega, show gD g + 4 + 4 + 4 = gD g + 12 by omega, show gD g + 4 + 4 = gD g + 8 by omega]
  · refine x_iconst dX0_feed_16 ?_
    refine x_iret dX0_feed_17 rfl ?_
    exact kf (by omega)
set_option maxHeartbeats 4000000 in
theorem C_X13_feed {u v w y z : Int} (hC : TwI L h o s g) (hI : SgI g b q) (kt : gD g ≤ 1980 → ∀ h', TwI L h' o s (feedG g u v w y z) → FO h h' o → Q (.inl [aI (gD g + 20)]) L h') (kf : ¬ gD g ≤ 1980 → Q (.inl [aI (-1)]) L h) : am_C G mX13_feed (d + 12) [aR o, aI u, aI v, aI w, aI y, aI z] L h Q := by
  have hL := hC.1.ml
  obtain ⟨e1, e2⟩ := hC.2.2.2.2.1
  have bd := hI.2.2.2.2.2.2.2
  refine x_start okX13_feed rfl rfl rfl rfl ?_
  refine x_aload_0 dX13_feed_0 ?_
  refine x_getI_ dX13_feed_1 fl1576_13 (by first | (exact MdL.k0 (by assumption)) | (assumption)) (fun r1 => ?_)
  rw [e1] at r1 ⊢
  refine x_bipush dX13_feed_4 rfl ?_
  refine x_iadd dX13_feed_6 ?_
  refine x_sipush dX13_feed_7 rfl ?_
  refine x_icmp_le (tgt := 15) dX13_feed_10 rfl (by omega) (by omega) (fun c10 => ?_) (fun c10 => ?_)
  · refine x_aload_0 dX13_feed_15 ?_
    refine x_iload_1 dX13_feed_16 ?_
    refine x_callV1 dX13_feed_17 rfl okX13_put q1805 q1807 qs55 (by first | assumption | (exact MdL.k0 (by assumption))) am_k13 rfl (C_X13_put (B := gB g) hL ⟨bd.1, by omega⟩ e1 e2 (fun h1 a1 b1 c1 d1 => (x_k0 ?_)))
    refine x_aload_0 dX13_feed_20 ?_
    refine x_iload_2 dX13_feed_21 ?_
    refine x_callV1 dX13_feed_22 rfl okX13_put q1805 q1807 qs55 (by first | assumption | (exact MdL.k0 (by assumption))) am_k13 rfl (C_X13_put hL ⟨by omega, by omega⟩ c1 d1 (fun h2 a2 b2 c2 d2 => (x_k0 ?_)))
    refine x_aload_0 dX13_feed_25 ?_
    refine x_iload_3 dX13_feed_26 ?_
    refine x_callV1 dX13_feed_27 rfl okX13_put q1805 q1807 qs55 (by first | assumption | (exact MdL.k0 (by assumption))) am_k13 rfl (C_X13_put hL ⟨by omega, by omega⟩ c2 d2 (fun h3 a3 b3 c3 d3 => (x_k0 ?_)))
    refine x_aload_0 dX13_feed_30 ?_
    refine x_iload4 dX13_feed_31 ?_
    refine x_callV1 dX13_feed_33 rfl okX13_put q1805 q1807 qs55 (by first | assumption | (exact MdL.k0 (by assumption))) am_k13 rfl (C_X13_put hL ⟨by omega, by omega⟩ c3 d3 (fun h4 a4 b4 c4 d4 => (x_k0 ?_)))
    refine x_aload_0 dX13_feed_36 ?_
    refine x_iload5 dX13_feed_37 ?_
    refine x_callV1 dX13_feed_39 rfl okX13_put q1805 q1807 qs55 (by first | assumption | (exact MdL.k0 (by assumption))) am_k13 rfl (C_X13_put hL ⟨by omega, by omega⟩ c4 d4 (fun h5 a5 b5 c5 d5 => (x_k0 ?_)))
    refine x_aload_0 dX13_feed_42 ?_
    refine x_getI_ dX13_feed_43 fl1576_13 (by first | (exact MdL.k0 (by assumption)) | (assumption)) (fun r43 => ?_)
    refine x_iret dX13_feed_46 rfl ?_
    have hf : ∀ a, a ≠ o → a ≠ (o + 1) → h5 a = h a := fun a z0 z1 => by rw [a5 a z0 z1, a4 a z0 z1, a3 a z0 z1, a2 a z0 z1, a1 a z0 z1]
    have hg : ∀ j, j ≠ 2 → h5 o j = h o j := fun j z0 => by rw [b5 j z0, b4 j z0, b3 j z0, b2 j z0, b1 j z0]
    refine x_q1 (show h5 o 2 = gD g + 20 by omega) (kt (by omega) h5 (hC.tape hI.1 hf hg ⟨by omega, fun i z0 z1 => ?_⟩) (fun a z => hf a (by omega) (by omega)))
    have := d5 i z0 (by omega)
    rw [this]
    unfold feedB
    rw [show gD g + 4 + 4 + 4 + 4 = gD g + 16 by omega, show gD g + 4 + 4 + 4 = gD g + 12 by omega, show gD g + 4 + 4 = gD g + 8 by omega]
  · refine x_iconst dX13_feed_13 ?_
    refine x_iret dX13_feed_14 rfl ?_
    exact kf (by omega)
def bakG (g : Sg) (n : Int) : Sg := setD g (gD g - n) (gB g)
set_option maxHeartbeats 4000000 in
theorem C_X0_back {n : Int} (hC : CoI L h x t g) (hI : SgI g b q) (hn : rg32 n) (kt : (0 ≤ n ∧ n ≤ gD g) → ∀ h', CoI L h' x t (bakG g n) → FX h h' x → Q (.inl [aI (gD g - n)]) L h') (kf : ¬ (0 ≤ n ∧ n ≤ gD g) → Q (.inl [aI (-1)]) L h) : am_C G mX0_back (d + 430) [aR x, aI n] L h Q := by
  have hK := hC.1.mk
  obtain ⟨e1, e2⟩ := hC.2.2.2.2.1
  have bd := hI.2.2.2.2.2.2.2
  refine x_start okX0_back rfl rfl rfl rfl ?_
  refine x_iload_1 dX0_back_0 ?_
  refine x_if_lt (tgt := 15) dX0_back_1 rfl (by omega) (fun c1 => ?_) (fun c1 => ?_)
  · skip
    refine x_iconst dX0_back_15 ?_
    refine x_iret dX0_back_16 rfl ?_
    exact kf (by omega)
  · refine x_iload_1 dX0_back_4 ?_
    refine x_aload_0 dX0_back_5 ?_
    refine x_getR dX0_back_6 fl572_0 rfl (by first | (exact MkL.k0 (by assumption)) | (assumption)) (by first | (exact MkL.v_tokens (by assumption)) | (assumption)) ?_
    refine x_getI_ dX0_back_9 fl263_2 (by first | (exact MkL.k_tokens (by assumption)) | (assumption)) (fun r9 => ?_)
    rw [e1] at r9 ⊢
    refine x_icmp_le (tgt := 17) dX0_back_12 rfl (by omega) (by omega) (fun c12 => ?_) (fun c12 => ?_)
    · refine x_aload_0 dX0_back_17 ?_
      refine x_getR dX0_back_18 fl572_0 rfl (by first | (exact MkL.k0 (by assumption)) | (assumption)) (by first | (exact MkL.v_tokens (by assumption)) | (assumption)) ?_
      refine x_dup dX0_back_21 rfl ?_
      refine x_getI_ dX0_back_22 fl263_2 (by first | (exact MkL.k_tokens (by assumption)) | (assumption)) (fun r22 => ?_)
      rw [e1] at r22 ⊢
      refine x_iload_1 dX0_back_25 ?_
      refine x_isub dX0_back_26 ?_
      refine x_putI_ dX0_back_27 fl263_2 (by first | (exact MkL.k_tokens (by assumption)) | (assumption)) (by omega) ?_
      refine x_aload_0 dX0_back_30 ?_
      refine x_getR dX0_back_31 fl572_0 rfl (by first | (exact MkL.k0 (by assumption)) | (assumption)) (by first | (exact MkL.v_tokens (by assumption)) | (assumption)) ?_
      refine x_getI_ dX0_back_34 fl263_2 (by first | (exact MkL.k_tokens (by assumption)) | (assumption)) (fun r34 => ?_)
      refine x_iret dX0_back_37 rfl ?_
      refine x_q1 am_st_s (kt ⟨by omega, by omega⟩ _ (hC.tape (fun a z0 z1 => am_st_o z0) ⟨am_st_s, fun i z0 z1 => ?_⟩) (fun a z => am_st_o (by omega)))
      rw [am_st_o (by omega)]
      exact e2 i z0 (by omega)
    · skip
      refine x_iconst dX0_back_15 ?_
      refine x_iret dX0_back_16 rfl ?_
      exact kf (by omega)
set_option maxHeartbeats 4000000 in
theorem C_X13_back {n : Int} (hC : TwI L h o s g) (hI : SgI g b q) (hn : rg32 n) (kt : (0 ≤ n ∧ n ≤ gD g) → ∀ h', TwI L h' o s (bakG g n) → FO h h' o → Q (.inl [aI (gD g - n)]) L h') (kf : ¬ (0 ≤ n ∧ n ≤ gD g) → Q (.inl [aI (-1)]) L h) : am_C G mX13_back (d + 12) [aR o, aI n] L h Q := by
  have hL := hC.1.ml
  obtain ⟨e1, e2⟩ := hC.2.2.2.2.1
  have bd := hI.2.2.2.2.2.2.2
  refine x_start okX13_back rfl rfl rfl rfl ?_
  refine x_iload_1 dX13_back_0 ?_
  refine x_if_lt (tgt := 12) dX13_back_1 rfl (by omega) (fun c1 => ?_) (fun c1 => ?_)
  · skip
    refine x_iconst dX13_back_12 ?_
    refine x_iret dX13_back_13 rfl ?_
    exact kf (by omega)
  · refine x_iload_1 dX13_back_4 ?_
    refine x_aload_0 dX13_back_5 ?_
    refine x_getI_ dX13_back_6 fl1576_13 (by first | (exact MdL.k0 (by assumption)) | (assumption)) (fun r6 => ?_)
    rw [e1] at r6 ⊢
    refine x_icmp_le (tgt := 14) dX13_back_9 rfl (by omega) (by omega) (fun c9 => ?_) (fun c9 => ?_)
    · refine x_aload_0 dX13_back_14 ?_
      refine x_dup dX13_back_15 rfl ?_
      refine x_getI_ dX13_back_16 fl1576_13 (by first | (exact MdL.k0 (by assumption)) | (assumption)) (fun r16 => ?_)
      rw [e1] at r16 ⊢
      refine x_iload_1 dX13_back_19 ?_
      refine x_isub dX13_back_20 ?_
      refine x_putI_ dX13_back_21 fl1576_13 (by first | (exact MdL.k0 (by assumption)) | (assumption)) (by omega) ?_
      refine x_aload_0 dX13_back_24 ?_
      refine x_getI_ dX13_back_25 fl1576_13 (by first | (exact MdL.k0 (by assumption)) | (assumption)) (fun r25 => ?_)
      refine x_iret dX13_back_28 rfl ?_
      refine x_q1 am_st_s (kt ⟨by omega, by omega⟩ _ (hC.tape hI.1 (fun a z0 z1 => am_st_o z0) (fun j z0 => am_st_i z0) ⟨am_st_s, fun i z0 z1 => ?_⟩) (fun a z => am_st_o (by omega)))
      rw [am_st_o (by omega)]
      exact e2 i z0 (by omega)
    · skip
      refine x_iconst dX13_back_12 ?_
      refine x_iret dX13_back_13 rfl ?_
      exact kf (by omega)
end FEED
