/-! THE TWIN: tellsBy, longOf, leftOf, goesOf -/
set_option maxRecDepth 100000
section MTELLS
variable {G : am_G} {d : Nat} {L : am_L} {h : am_H} {Q : am_O → am_L → am_H → Prop} {o s : Int} {T : Txt} {S : Row} {b q : Int}
theorem lawGo_b1 (tl tt te : Int → Tau) (v : Int → Int) : ∀ (r : Nat) (k : Int), (lawGo tl tt te v r k 1).2 = 1
  | 0, k => by
    show (if (1 : Int) = 1 ∨ (te k v).2 = 1 then (1 : Int) else 0) = 1
    exact if_pos (Or.inl rfl)
  | r + 1, k => by
    unfold lawGo
    rw [if_pos (show (if (1 : Int) = 1 ∨ (tl k v).2 = 1 then (1 : Int) else 0) = 1 ∨ (tt k v).2 = 1 from Or.inl (if_pos (Or.inl rfl)))]
    split
    · exact lawGo_b1 tl tt te v r (k + 1)
    · show (if (1 : Int) = 1 ∨ (te k v).2 = 1 then (1 : Int) else 0) = 1
      exact if_pos (Or.inl rfl)
theorem lawGo_s (tl tt te : Int → Tau) (v : Int → Int) (r : Nat) (k b : Int) : lawGo tl tt te v (r + 1) k b = if (tt k v).1 ≤ (tl k v).1 then lawGo tl tt te v r (k + 1) (if (if b = 1 ∨ (tl k v).2 = 1 then (1 : Int) else 0) = 1 ∨ (tt k v).2 = 1 then 1 else 0)
    else ((te k v).1, if (if (if b = 1 ∨ (tl k v).2 = 1 then (1 : Int) else 0) = 1 ∨ (tt k v).2 = 1 then (1 : Int) else 0) = 1 ∨ (te k v).2 = 1 then 1 else 0) := rfl
theorem lawGo_br (tl tt te : Int → Tau) (v : Int → Int) (r : Nat) (k : Int) (h : (tl k v).2 = 1 ∨ (tt k v).2 = 1) : (lawGo tl tt te v (r + 1) k 0).2 = 1 := by
  have e : (if (if (0 : Int) = 1 ∨ (tl k v).2 = 1 then (1 : Int) else 0) = 1 ∨ (tt k v).2 = 1 then (1 : Int) else 0) = 1 := by
    rcases h with h | h
    · exact if_pos (Or.inl (if_pos (Or.inr h)))
    · exact if_pos (Or.inr h)
  unfold lawGo
  rw [e]
  split
  · exact lawGo_b1 tl tt te v r (k + 1)
  · show (if (1 : Int) = 1 ∨ (te k v).2 = 1 then (1 : Int) else 0) = 1
    exact if_pos (Or.inl rfl)
theorem lawGo_next (tl tt te : Int → Tau) (v : Int → Int) (r : Nat) (k : Int) (h1 : (tl k v).2 = 0) (h2 : (tt k v).2 = 0) (h : (tt k v).1 ≤ (tl k v).1) : lawGo tl tt te v (r + 1) k 0 = lawGo tl tt te v r (k + 1) 0 := by
  have e : (if (if (0 : Int) = 1 ∨ (tl k v).2 = 1 then (1 : Int) else 0) = 1 ∨ (tt k v).2 = 1 then (1 : Int) else 0) = 0 := by
    rw [if_neg (show ¬ ((0 : Int) = 1 ∨ (tl k v).2 = 1) by omega)]
    exact if_neg (by omega)
  rw [lawGo_s, e, if_pos h]
theorem lawGo_stop (tl tt te : Int → Tau) (v : Int → Int) (r : Nat) (k : Int) (h1 : (tl k v).2 = 0) (h2 : (tt k v).2 = 0) (h : ¬ (tt k v).1 ≤ (tl k v).1) : lawGo tl tt te v (r + 1) k 0 = ((te k v).1, if (te k v).2 = 1 then 1 else 0) := by
  have e : (if (if (0 : Int) = 1 ∨ (tl k v).2 = 1 then (1 : Int) else 0) = 1 ∨ (tt k v).2 = 1 then (1 : Int) else 0) = 0 := by
    rw [if_neg (show ¬ ((0 : Int) = 1 ∨ (tl k v).2 = 1) by omega)]
    exact if_neg (by omega)
  rw [lawGo_s, e, if_neg h]
  simp
theorem lawGo_end (tl tt te : Int → Tau) (v : Int → Int) (k : Int) : lawGo tl tt te v 0 k 0 = ((te k v).1, if (te k v).2 = 1 then 1 else 0) := by
  unfold lawGo
  simp
theorem FrV.ofP {h h' : am_H} {o : Int} (h1 : ∀ x i, x ≠ o + 36 → (x = o → i ≠ 54) → h' x i = h x i) : FrV h h' o := fun a i z => h1 a i z.2.1 z.2.2
theorem FrV.ofQ {h h' : am_H} {o : Int} (h1 : ∀ x, x ≠ o + 36 → h' x = h x) : FrV h h' o := fun a i z => by rw [h1 a z.2.1]
set_option maxHeartbeats 8000000 in
theorem C_X13_tellsBy {at_ : Int} {la : Lam} (hL : MdL L o) (hs : 0 ≤ s ∧ s ≤ 1) (ha : 0 ≤ at_ ∧ at_ < 16) (hw : LwB h o s (h (o + 25) at_) (h (o + 26) at_) la)
    (k : ∀ z h', rg32 z → (if z < 0 then 0 else z) = la (h (o + 35)) → (∀ x i, x ≠ (o + 36) → (x = o → i ≠ 54) → h' x i = h x i) → Q (.inl [aI z]) L h') : am_C G mX13_tellsBy (d + 2) [aR o, aI at_] L h Q := by
  generalize ef : h (o + 25) at_ = f at hw
  generalize el : h (o + 26) at_ = l at hw
  obtain ⟨n, tl, tt, te, hn, hf, hl, hl2, hla, hb, he, hz⟩ := hw
  have k0 : (lawGo tl tt te (h (o + 35)) n.toNat 0 0).2 = 1 → ∀ h', (∀ x i, x ≠ (o + 36) → (x = o → i ≠ 54) → h' x i = h x i) → Q (.inl [aI 0]) L h' := by
    intro z h' z1
    refine k 0 h' ⟨by decide, by decide⟩ ?_ z1
    rw [hla]
    unfold lamOf
    rw [if_pos z]
    rfl
  refine x_start okX13_tellsBy rfl rfl rfl rfl ?_
  refine x_aload_0 dX13_tellsBy_0 ?_
  refine x_iconst dX13_tellsBy_1 ?_
  refine x_putZ_ dX13_tellsBy_2 fl1628_13 (by first | (exact MdL.k0 (by assumption)) | (assumption)) (by omega) ?_
  refine x_aload_0 dX13_tellsBy_5 ?_
  refine x_getR dX13_tellsBy_6 fl1613_13 rfl (by first | (exact MdL.k0 (by assumption)) | (assumption)) (by first | (exact MdL.v_lawFirst (by assumption)) | (assumption)) ?_
  refine x_iload_1 dX13_tellsBy_9 ?_
  refine x_iald_ dX13_tellsBy_10 (by first | (exact MdL.k_lawFirst (by assumption)) | (assumption)) (by first | (exact MdL.x_lawFirst (by assumption) (by omega) (by omega)) | (omega)) (fun r10 => ?_)
  simp (disch := omega) only [am_st_o, ef] at r10 ⊢
  refine x_istore_2 dX13_tellsBy_11 rfl ?_
  skip
  suffices H : ∀ (r : Nat) (i : Int) (hh : am_H) (w3 w4 : AV), 0 ≤ i → i + r = n → (∀ x j, x ≠ (o + 36) → (x = o → j ≠ 54) → hh x j = h x j) → hh o 54 = 0 → lawGo tl tt te (h (o + 35)) n.toNat 0 0 = lawGo tl tt te (h (o + 35)) r i 0 → am_X G mX13_tellsBy (d + 2) 12 [aR o, aI at_, aI (f + i), w3, w4] [] L hh Q by
    have := H n.toNat 0 (am_st h o 54 0) aU aU (by omega) (by omega) (fun x j z0 z1 => by by_cases e : x = o
                                                                                          · subst e
                                                                                            exact am_st_i (z1 rfl)
                                                                                          · rw [am_st_o e]) am_st_s rfl
    rw [show f + 0 = f by omega] at this
    exact this
  have fin : ∀ (i : Int) (hh : am_H) (w3 w4 : AV), 0 ≤ i → i ≤ n → (∀ x j, x ≠ (o + 36) → (x = o → j ≠ 54) → hh x j = h x j) → hh o 54 = 0 → lawGo tl tt te (h (o + 35)) n.toNat 0 0 = ((te i (h (o + 35))).1, if (te i (h (o + 35))).2 = 1 then 1 else 0) → am_X G mX13_tellsBy (d + 2) 84 [aR o, aI at_, aI (f + i), w3, w4] [] L hh Q := by
    intro i hh w3 w4 z0 z1 hfr hb0 hgo
    have hfw : FrW h hh o := (FrV.ofP hfr).w
    have hv : hh (o + 35) = h (o + 35) := by funext j; exact hfr _ _ (by omega) (by omega)
    have hseg : SegT hh o s (hh (o + 30) (f + i)) (hh (o + 31) (f + i)) (te i) := by
      rw [hfr (o + 30) _ (by omega) (by omega), hfr (o + 31) _ (by omega) (by omega)]
      exact (he i z0 z1).fr hfw
    refine x_aload_0 dX13_tellsBy_84 ?_
    refine x_aload_0 dX13_tellsBy_85 ?_
    refine x_getR dX13_tellsBy_86 fl1619_13 rfl (by first | (exact MdL.k0 (by assumption)) | (assumption)) (by first | (exact MdL.v_testTo (by assumption)) | (assumption)) ?_
    refine x_iload_2 dX13_tellsBy_89 ?_
    refine x_iald_ dX13_tellsBy_90 (by first | (exact MdL.k_testTo (by assumption)) | (assumption)) (by first | (exact MdL.x_testTo (by assumption) (by omega) (by omega)) | (omega)) (fun r90 => ?_)
    refine x_aload_0 dX13_tellsBy_91 ?_
    refine x_getR dX13_tellsBy_92 fl1620_13 rfl (by first | (exact MdL.k0 (by assumption)) | (assumption)) (by first | (exact MdL.v_termTo (by assumption)) | (assumption)) ?_
    refine x_iload_2 dX13_tellsBy_95 ?_
    refine x_iald_ dX13_tellsBy_96 (by first | (exact MdL.k_termTo (by assumption)) | (assumption)) (by first | (exact MdL.x_termTo (by assumption) (by omega) (by omega)) | (omega)) (fun r96 => ?_)
    refine x_callV2 dX13_tellsBy_97 rfl okX13_termOf q1950 q1952 qs85 (by first | assumption | (exact MdL.k0 (by assumption))) am_k13 rfl (C_X13_termOf hL hs hseg (fun z2 y2 h1 e1 => (x_k1 ?_)) (fun z2 h1 e1 e2 => (x_k1 ?_)))
    · rw [hv] at z2 y2 ⊢
      have hb1 : h1 o 54 = 0 := by rw [e1 o (by omega)]; exact hb0
      refine x_istore_3 dX13_tellsBy_100 rfl ?_
      refine x_aload_0 dX13_tellsBy_101 ?_
      refine x_getZ_ dX13_tellsBy_102 fl1628_13 (by first | (exact MdL.k0 (by assumption)) | (assumption)) (fun r102 => ?_)
      rw [hb1] at r102 ⊢
      refine x_if_eq (tgt := 112) dX13_tellsBy_105 rfl (by omega) (fun c105 => ?_) (fun c105 => ?_)
      · refine x_iload_3 dX13_tellsBy_112 ?_
        refine x_iret dX13_tellsBy_113 rfl ?_
        refine k _ h1 ?_ ?_ (fun x j y0 y1 => by rw [e1 x y0]; exact hfr x j y0 y1)
        · exact y2
        · rw [hla]
          unfold lamOf
          rw [hgo, if_neg (show ¬ (if (te i (h (o + 35))).2 = 1 then (1 : Int) else 0) = 1 by rw [z2]; decide)]
      · exact absurd rfl c105
    · rw [hv] at z2
      refine x_istore_3 dX13_tellsBy_100 rfl ?_
      refine x_aload_0 dX13_tellsBy_101 ?_
      refine x_getZ_ dX13_tellsBy_102 fl1628_13 (by first | (exact MdL.k0 (by assumption)) | (assumption)) (fun r102 => ?_)
      rw [e2] at r102 ⊢
      refine x_if_eq (tgt := 112) dX13_tellsBy_105 rfl (by omega) (fun c105 => ?_) (fun c105 => ?_)
      · exact absurd c105 (by decide)
      · refine x_iconst dX13_tellsBy_108 ?_
        refine x_goto (tgt := 113) dX13_tellsBy_109 rfl ?_
        refine x_iret dX13_tellsBy_113 rfl ?_
        refine k0 ?_ h1 (fun x j y0 y1 => by rw [e1 x j y0 y1]; exact hfr x j y0 y1)
        rw [hgo]
        exact if_pos z2
  intro r
  induction r with
  | zero =>
    intro i hh w3 w4 z0 z1 hfr hb0 hgo
    have hin : i = n := by omega
    have e3 : hh (o + 26) at_ = l := by rw [hfr _ _ (by omega) (by omega)]; exact el
    have e4 : hh (o + 27) (f + i) = 0 := by rw [hfr _ _ (by omega) (by omega), hin]; exact hz
    refine x_iload_2 dX13_tellsBy_12 ?_
    refine x_aload_0 dX13_tellsBy_13 ?_
    refine x_getR dX13_tellsBy_14 fl1614_13 rfl (by first | (exact MdL.k0 (by assumption)) | (assumption)) (by first | (exact MdL.v_lawLast (by assumption)) | (assumption)) ?_
    refine x_iload_1 dX13_tellsBy_17 ?_
    refine x_iald_ dX13_tellsBy_18 (by first | (exact MdL.k_lawLast (by assumption)) | (assumption)) (by first | (exact MdL.x_lawLast (by assumption) (by omega) (by omega)) | (omega)) (fun r18 => ?_)
    rw [e3] at r18 ⊢
    refine x_icmp_ge (tgt := 120) dX13_tellsBy_19 rfl (by omega) (by omega) (fun c19 => ?_) (fun c19 => ?_)
    · exfalso; omega
    · refine x_aload_0 dX13_tellsBy_22 ?_
      refine x_getR dX13_tellsBy_23 fl1616_13 rfl (by first | (exact MdL.k0 (by assumption)) | (assumption)) (by first | (exact MdL.v_hasTest (by assumption)) | (assumption)) ?_
      refine x_iload_2 dX13_tellsBy_26 ?_
      refine x_zald_ dX13_tellsBy_27 (by first | (exact MdL.k_hasTest (by assumption)) | (assumption)) (by first | (exact MdL.x_hasTest (by assumption) (by omega) (by omega)) | (omega)) (fun r27 => ?_)
      rw [e4] at r27 ⊢
      refine x_if_eq (tgt := 84) dX13_tellsBy_28 rfl (by omega) (fun c28 => ?_) (fun c28 => ?_)
      · exact fin i hh _ _ z0 (by omega) hfr hb0 (by rw [hgo]; exact lawGo_end tl tt te _ i)
      · exact absurd rfl c28
  | succ r ih =>
    intro i hh w3 w4 z0 z1 hfr hb0 hgo
    obtain ⟨b1, b2, b3⟩ := hb i z0 (by omega)
    have hfw : FrW h hh o := (FrV.ofP hfr).w
    have e3 : hh (o + 26) at_ = l := by rw [hfr _ _ (by omega) (by omega)]; exact el
    have e4 : hh (o + 27) (f + i) = 1 := by rw [hfr _ _ (by omega) (by omega)]; exact b1
    have hv : hh (o + 35) = h (o + 35) := by funext j; exact hfr _ _ (by omega) (by omega)
    have hs1 : SegT hh o s (hh (o + 28) (f + i)) (hh (o + 29) (f + i)) (tl i) := by
      rw [hfr (o + 28) _ (by omega) (by omega), hfr (o + 29) _ (by omega) (by omega)]
      exact b2.fr hfw
    refine x_iload_2 dX13_tellsBy_12 ?_
    refine x_aload_0 dX13_tellsBy_13 ?_
    refine x_getR dX13_tellsBy_14 fl1614_13 rfl (by first | (exact MdL.k0 (by assumption)) | (assumption)) (by first | (exact MdL.v_lawLast (by assumption)) | (assumption)) ?_
    refine x_iload_1 dX13_tellsBy_17 ?_
    refine x_iald_ dX13_tellsBy_18 (by first | (exact MdL.k_lawLast (by assumption)) | (assumption)) (by first | (exact MdL.x_lawLast (by assumption) (by omega) (by omega)) | (omega)) (fun r18 => ?_)
    rw [e3] at r18 ⊢
    refine x_icmp_ge (tgt := 120) dX13_tellsBy_19 rfl (by omega) (by omega) (fun c19 => ?_) (fun c19 => ?_)
    · exfalso; omega
    · refine x_aload_0 dX13_tellsBy_22 ?_
      refine x_getR dX13_tellsBy_23 fl1616_13 rfl (by first | (exact MdL.k0 (by assumption)) | (assumption)) (by first | (exact MdL.v_hasTest (by assumption)) | (assumption)) ?_
      refine x_iload_2 dX13_tellsBy_26 ?_
      refine x_zald_ dX13_tellsBy_27 (by first | (exact MdL.k_hasTest (by assumption)) | (assumption)) (by first | (exact MdL.x_hasTest (by assumption) (by omega) (by omega)) | (omega)) (fun r27 => ?_)
      rw [e4] at r27 ⊢
      refine x_if_eq (tgt := 84) dX13_tellsBy_28 rfl (by omega) (fun c28 => ?_) (fun c28 => ?_)
      · exact absurd c28 (by decide)
      · refine x_aload_0 dX13_tellsBy_31 ?_
        refine x_aload_0 dX13_tellsBy_32 ?_
        refine x_getR dX13_tellsBy_33 fl1617_13 rfl (by first | (exact MdL.k0 (by assumption)) | (assumption)) (by first | (exact MdL.v_testFrom (by assumption)) | (assumption)) ?_
        refine x_iload_2 dX13_tellsBy_36 ?_
        refine x_iald_ dX13_tellsBy_37 (by first | (exact MdL.k_testFrom (by assumption)) | (assumption)) (by first | (exact MdL.x_testFrom (by assumption) (by omega) (by omega)) | (omega)) (fun r37 => ?_)
        refine x_aload_0 dX13_tellsBy_38 ?_
        refine x_getR dX13_tellsBy_39 fl1618_13 rfl (by first | (exact MdL.k0 (by assumption)) | (assumption)) (by first | (exact MdL.v_testMid (by assumption)) | (assumption)) ?_
        refine x_iload_2 dX13_tellsBy_42 ?_
        refine x_iald_ dX13_tellsBy_43 (by first | (exact MdL.k_testMid (by assumption)) | (assumption)) (by first | (exact MdL.x_testMid (by assumption) (by omega) (by omega)) | (omega)) (fun r43 => ?_)
        refine x_callV2 dX13_tellsBy_44 rfl okX13_termOf q1950 q1952 qs85 (by first | assumption | (exact MdL.k0 (by assumption))) am_k13 rfl (C_X13_termOf hL hs hs1 (fun z2 y2 h1 e1 => (x_k1 ?_)) (fun z2 h1 e1 e2 => (x_k1 ?_)))
        · rw [hv] at z2 y2 ⊢
          have f1 : ∀ x j, x ≠ (o + 36) → (x = o → j ≠ 54) → h1 x j = h x j := fun x j y0 y1 => by rw [e1 x y0]; exact hfr x j y0 y1
          have hs2 : SegT h1 o s (h1 (o + 29) (f + i)) (h1 (o + 30) (f + i)) (tt i) := by
            rw [f1 (o + 29) _ (by omega) (by omega), f1 (o + 30) _ (by omega) (by omega)]
            exact b3.fr (FrV.ofP f1).w
          have hv1 : h1 (o + 35) = h (o + 35) := by funext j; exact f1 _ _ (by omega) (by omega)
          refine x_istore_3 dX13_tellsBy_47 rfl ?_
          refine x_aload_0 dX13_tellsBy_48 ?_
          refine x_aload_0 dX13_tellsBy_49 ?_
          refine x_getR dX13_tellsBy_50 fl1618_13 rfl (by first | (exact MdL.k0 (by assumption)) | (assumption)) (by first | (exact MdL.v_testMid (by assumption)) | (assumption)) ?_
          refine x_iload_2 dX13_tellsBy_53 ?_
          refine x_iald_ dX13_tellsBy_54 (by first | (exact MdL.k_testMid (by assumption)) | (assumption)) (by first | (exact MdL.x_testMid (by assumption) (by omega) (by omega)) | (omega)) (fun r54 => ?_)
          refine x_aload_0 dX13_tellsBy_55 ?_
          refine x_getR dX13_tellsBy_56 fl1619_13 rfl (by first | (exact MdL.k0 (by assumption)) | (assumption)) (by first | (exact MdL.v_testTo (by assumption)) | (assumption)) ?_
          refine x_iload_2 dX13_tellsBy_59 ?_
          refine x_iald_ dX13_tellsBy_60 (by first | (exact MdL.k_testTo (by assumption)) | (assumption)) (by first | (exact MdL.x_testTo (by assumption) (by omega) (by omega)) | (omega)) (fun r60 => ?_)
          refine x_callV2 dX13_tellsBy_61 rfl okX13_termOf q1950 q1952 qs85 (by first | assumption | (exact MdL.k0 (by assumption))) am_k13 rfl (C_X13_termOf hL hs hs2 (fun z3 y3 h2 g1 => (x_k1 ?_)) (fun z3 h2 g1 g2 => (x_k1 ?_)))
          · rw [hv1] at z3 y3 ⊢
            have f2 : ∀ x j, x ≠ (o + 36) → (x = o → j ≠ 54) → h2 x j = h x j := fun x j y0 y1 => by rw [g1 x y0]; exact f1 x j y0 y1
            have hb2 : h2 o 54 = 0 := by rw [g1 o (by omega), e1 o (by omega)]; exact hb0
            refine x_istore4 dX13_tellsBy_64 rfl ?_
            refine x_aload_0 dX13_tellsBy_66 ?_
            refine x_getZ_ dX13_tellsBy_67 fl1628_13 (by first | (exact MdL.k0 (by assumption)) | (assumption)) (fun r67 => ?_)
            rw [hb2] at r67 ⊢
            refine x_if_eq (tgt := 75) dX13_tellsBy_70 rfl (by omega) (fun c70 => ?_) (fun c70 => ?_)
            · refine x_iload_3 dX13_tellsBy_75 ?_
              refine x_iload4 dX13_tellsBy_76 ?_
              refine x_icmp_lt (tgt := 84) dX13_tellsBy_78 rfl (by omega) (by omega) (fun c78 => ?_) (fun c78 => ?_)
              · exact fin i h2 _ _ z0 (by omega) f2 hb2 (by rw [hgo]; exact lawGo_stop tl tt te _ r i z2 z3 (by omega))
              · refine x_goto (tgt := 114) dX13_tellsBy_81 rfl ?_
                refine x_iinc2 dX13_tellsBy_114 rfl ?_
                refine x_goto (tgt := 12) dX13_tellsBy_117 rfl ?_
                rw [show f + i + 1 = f + (i + 1) by omega]
                exact ih (i + 1) h2 _ _ (by omega) (by omega) f2 hb2 (by rw [hgo]; exact lawGo_next tl tt te _ r i z2 z3 (by omega))
            · exact absurd rfl c70
          · rw [hv1] at z3
            refine x_istore4 dX13_tellsBy_64 rfl ?_
            refine x_aload_0 dX13_tellsBy_66 ?_
            refine x_getZ_ dX13_tellsBy_67 fl1628_13 (by first | (exact MdL.k0 (by assumption)) | (assumption)) (fun r67 => ?_)
            rw [g2] at r67 ⊢
            refine x_if_eq (tgt := 75) dX13_tellsBy_70 rfl (by omega) (fun c70 => ?_) (fun c70 => ?_)
            · exact absurd c70 (by decide)
            · refine x_iconst dX13_tellsBy_73 ?_
              refine x_iret dX13_tellsBy_74 rfl ?_
              refine k0 ?_ h2 (fun x j y0 y1 => by rw [g1 x j y0 y1]; exact f1 x j y0 y1)
              rw [hgo]
              exact lawGo_br tl tt te _ r i (Or.inr z3)
        · rw [hv] at z2
          have f1 : ∀ x j, x ≠ (o + 36) → (x = o → j ≠ 54) → h1 x j = h x j := fun x j y0 y1 => by rw [e1 x j y0 y1]; exact hfr x j y0 y1
          have hs2 : SegT h1 o s (h1 (o + 29) (f + i)) (h1 (o + 30) (f + i)) (tt i) := by
            rw [f1 (o + 29) _ (by omega) (by omega), f1 (o + 30) _ (by omega) (by omega)]
            exact b3.fr (FrV.ofP f1).w
          refine x_istore_3 dX13_tellsBy_47 rfl ?_
          refine x_aload_0 dX13_tellsBy_48 ?_
          refine x_aload_0 dX13_tellsBy_49 ?_
          refine x_getR dX13_tellsBy_50 fl1618_13 rfl (by first | (exact MdL.k0 (by assumption)) | (assumption)) (by first | (exact MdL.v_testMid (by assumption)) | (assumption)) ?_
          refine x_iload_2 dX13_tellsBy_53 ?_
          refine x_iald_ dX13_tellsBy_54 (by first | (exact MdL.k_testMid (by assumption)) | (assumption)) (by first | (exact MdL.x_testMid (by assumption) (by omega) (by omega)) | (omega)) (fun r54 => ?_)
          refine x_aload_0 dX13_tellsBy_55 ?_
          refine x_getR dX13_tellsBy_56 fl1619_13 rfl (by first | (exact MdL.k0 (by assumption)) | (assumption)) (by first | (exact MdL.v_testTo (by assumption)) | (assumption)) ?_
          refine x_iload_2 dX13_tellsBy_59 ?_
          refine x_iald_ dX13_tellsBy_60 (by first | (exact MdL.k_testTo (by assumption)) | (assumption)) (by first | (exact MdL.x_testTo (by assumption) (by omega) (by omega)) | (omega)) (fun r60 => ?_)
          refine x_callV2 dX13_tellsBy_61 rfl okX13_termOf q1950 q1952 qs85 (by first | assumption | (exact MdL.k0 (by assumption))) am_k13 rfl (C_X13_termOf hL hs hs2 (fun z3 y3 h2 g1 => (x_k1 ?_)) (fun z3 h2 g1 g2 => (x_k1 ?_)))
          · have hb2 : h2 o 54 = 1 := by rw [g1 o (by omega)]; exact e2
            refine x_istore4 dX13_tellsBy_64 rfl ?_
            refine x_aload_0 dX13_tellsBy_66 ?_
            refine x_getZ_ dX13_tellsBy_67 fl1628_13 (by first | (exact MdL.k0 (by assumption)) | (assumption)) (fun r67 => ?_)
            rw [hb2] at r67 ⊢
            refine x_if_eq (tgt := 75) dX13_tellsBy_70 rfl (by omega) (fun c70 => ?_) (fun c70 => ?_)
            · exact absurd c70 (by decide)
            · refine x_iconst dX13_tellsBy_73 ?_
              refine x_iret dX13_tellsBy_74 rfl ?_
              refine k0 ?_ h2 (fun x j y0 y1 => by rw [g1 x y0]; exact f1 x j y0 y1)
              rw [hgo]
              exact lawGo_br tl tt te _ r i (Or.inl z2)
          · skip
            refine x_istore4 dX13_tellsBy_64 rfl ?_
            refine x_aload_0 dX13_tellsBy_66 ?_
            refine x_getZ_ dX13_tellsBy_67 fl1628_13 (by first | (exact MdL.k0 (by assumption)) | (assumption)) (fun r67 => ?_)
            rw [g2] at r67 ⊢
            refine x_if_eq (tgt := 75) dX13_tellsBy_70 rfl (by omega) (fun c70 => ?_) (fun c70 => ?_)
            · exact absurd c70 (by decide)
            · refine x_iconst dX13_tellsBy_73 ?_
              refine x_iret dX13_tellsBy_74 rfl ?_
              refine k0 ?_ h2 (fun x j y0 y1 => by rw [g1 x j y0 y1]; exact f1 x j y0 y1)
              rw [hgo]
              exact lawGo_br tl tt te _ r i (Or.inl z2)
end MTELLS
