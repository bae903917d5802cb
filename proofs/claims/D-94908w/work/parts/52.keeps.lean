/-! KEEPS -/
set_option maxRecDepth 100000
section FG
variable {L : am_L} {h h' : am_H} {o s : Int} {T : Txt}
theorem SegT.fg (g : ∀ a i, o < a → a < o + 35 → h' a i = h a i) {a b : Int} {ta : Tau} (r : SegT h o s a b ta) : SegT h' o s a b ta := by
  obtain ⟨r1, r2, n, r3⟩ := r
  exact ⟨r1, r2, n, Seg.cg a b (fun i _ _ => ⟨g _ _ (by omega) (by omega), g _ _ (by omega) (by omega)⟩) n r3 (by omega) (by omega)⟩
theorem LwB.fg (g : ∀ a i, o < a → a < o + 35 → h' a i = h a i) {f l : Int} {la : Lam} (r : LwB h o s f l la) : LwB h' o s f l la := by
  obtain ⟨n, tl, tt, te, a1, a2, a3, a4, a5, a6, a7, a8⟩ := r
  refine ⟨n, tl, tt, te, a1, a2, a3, a4, a5, fun k h0 h1 => ?_, fun k h0 h1 => ?_, ?_⟩
  · obtain ⟨b1, b2, b3⟩ := a6 k h0 h1
    rw [g _ _ (by omega) (by omega), g _ _ (by omega) (by omega), g _ _ (by omega) (by omega), g _ _ (by omega) (by omega)]
    exact ⟨b1, b2.fg g, b3.fg g⟩
  · rw [g _ _ (by omega) (by omega), g _ _ (by omega) (by omega)]
    exact (a7 k h0 h1).fg g
  · rw [g _ _ (by omega) (by omega)]
    exact a8
theorem LawM.fg (g : ∀ a i, o < a → a < o + 35 → h' a i = h a i) {at_ : Int} {ol : Option Lam} (r : LawM h o s at_ ol) : LawM h' o s at_ ol := by
  rcases r with ⟨r1, r2⟩ | ⟨la, r1, r2⟩
  · exact Or.inl ⟨r1, by rw [g _ _ (by omega) (by omega), g _ _ (by omega) (by omega)]; exact r2⟩
  · refine Or.inr ⟨la, r1, ?_⟩
    rw [g _ _ (by omega) (by omega), g _ _ (by omega) (by omega)]
    exact r2.fg g
theorem TxS.fg (g : ∀ a i, o < a → a < o + 35 → h' a i = h a i) (r : TxS h o s T) : TxS h' o s T := by
  obtain ⟨a1, a2, a3, a4, a5, a6, a7, a8⟩ := r
  refine ⟨by rw [g _ _ (by omega) (by omega)]; exact a1, by rw [g _ _ (by omega) (by omega)]; exact a2, by rw [g _ _ (by omega) (by omega)]; exact a3, by rw [g _ _ (by omega) (by omega)]; exact a4, by rw [g _ _ (by omega) (by omega)]; exact a5, fun m h0 h1 => ?_, fun p h0 h1 => ?_, a8.fg g⟩
  · obtain ⟨b1, b2, b3, b4, b5, b6⟩ := a6 m h0 h1
    rw [g _ _ (by omega) (by omega), g _ _ (by omega) (by omega), g _ _ (by omega) (by omega), g _ _ (by omega) (by omega)]
    refine ⟨b1, b2, b3, b4, fun k h2 h3 => ?_, b6.fg g⟩
    rw [g _ _ (by omega) (by omega), g _ _ (by omega) (by omega)]
    exact b5 k h2 h3
  · rw [g _ _ (by omega) (by omega), g _ _ (by omega) (by omega)]
    exact a7 p h0 h1
theorem MdT.fg (g : ∀ a i, o < a → a < o + 35 → h' a i = h a i) (g2 : h' o 18 = h o 18) (r : MdT L h o s T) : MdT L h' o s T :=
  ⟨r.1, r.2.1, by rw [g2]; exact r.2.2.1, r.2.2.2.fg g⟩
end FG
section KEEPS
variable {G : am_G} {d : Nat} {L : am_L} {h h' : am_H} {Q : am_O → am_L → am_H → Prop} {x o s t : Int} {g : Sg} {b q : Int}
set_option maxHeartbeats 4000000 in
theorem C_X0_keeps (hC : CoI L h x t g) (hI : SgI g b q) (k : ∀ h', CoI L h' x t (pushG g) → (∀ a, a < x + 79 → a ≠ x → h' a = h a) → FX h h' x → Q (.inl []) L h') : am_C G mX0_keeps (d + 2) [aR x] L h Q := by
  have hC0 := hC
  obtain ⟨a1, ⟨b1, b2, b3⟩, c, ⟨d1, d2⟩, ⟨e1, e2⟩, f⟩ := hC
  have hK := a1.mk
  have hcl := a1.cl
  have hn := hI.2.2.1
  have hpc := hK.pcl (k := h x 6) b2.1 b2.2
  generalize eu : h x 6 = u at *
  generalize en : gN g = n at *
  refine x_start okX0_keeps rfl rfl rfl rfl ?_
  refine x_aload_0 dX0_keeps_0 ?_
  refine x_getR dX0_keeps_1 fl580_0 rfl (by first | (exact MkL.k0 (by assumption)) | (assumption)) (by first | (exact MkL.v_past (by assumption)) | (assumption)) ?_
  refine x_aload_0 dX0_keeps_4 ?_
  refine x_getI_ dX0_keeps_5 fl577_0 (by first | (exact MkL.k0 (by assumption)) | (assumption)) (fun r5 => ?_)
  rw [eu] at r5 ⊢
  refine x_aald dX0_keeps_8 (by first | (exact MkL.k_past (by assumption)) | (assumption)) (by decide) (by decide) (by first | (exact MkL.x_past (by assumption) (by omega) (by omega)) | (omega)) (by first | (exact MkL.e_past (by assumption) (by omega) (by omega)) | (assumption)) ?_
  refine x_aload_0 dX0_keeps_9 ?_
  refine x_getR dX0_keeps_10 fl578_0 rfl (by first | (exact MkL.k0 (by assumption)) | (assumption)) (by first | (exact MkL.v_cloth (by assumption)) | (assumption)) ?_
  refine x_callV1 dX0_keeps_13 rfl okX5_takes q1237 q1238 q1239 (by first | assumption | (exact ClL.k0 (by assumption))) am_k5 rfl (C_X5_takes a1.rc hpc hI.2.1 hI.1 (by omega) (fun h1 hr1 hf1 => (x_k0 ?_)))
  have g6 : h1 x 6 = u := by rw [hf1 x (by omega)]; exact eu
  have g5 : h1 x 5 = n := by rw [hf1 x (by omega)]; exact b1
  refine x_aload_0 dX0_keeps_16 ?_
  refine x_aload_0 dX0_keeps_17 ?_
  refine x_getI_ dX0_keeps_18 fl577_0 (by first | (exact MkL.k0 (by assumption)) | (assumption)) (fun r18 => ?_)
  rw [g6] at r18 ⊢
  refine x_iconst dX0_keeps_21 ?_
  refine x_iadd dX0_keeps_22 ?_
  refine x_bipush dX0_keeps_23 rfl ?_
  refine x_irem dX0_keeps_25 (by omega) (by omega) ?_
  refine x_putI_ dX0_keeps_26 fl577_0 (by first | (exact MkL.k0 (by assumption)) | (assumption)) (by have := bRem_nn (x := u + 1) (n := 30) ⟨by omega, by omega⟩ ⟨by decide, by decide⟩; omega) ?_
  refine x_aload_0 dX0_keeps_29 ?_
  refine x_bipush dX0_keeps_30 rfl ?_
  refine x_aload_0 dX0_keeps_32 ?_
  refine x_getI_ dX0_keeps_33 fl576_0 (by first | (exact MkL.k0 (by assumption)) | (assumption)) (fun r33 => ?_)
  simp (disch := omega) only [am_st_i] at r33 ⊢
  rw [g5] at r33 ⊢
  refine x_iconst dX0_keeps_36 ?_
  refine x_iadd dX0_keeps_37 ?_
  refine x_mmin dX0_keeps_38 q1257 q569 q135 q570 rfl (by omega) (by omega) ?_
  refine x_putI_ dX0_keeps_41 fl576_0 (by first | (exact MkL.k0 (by assumption)) | (assumption)) (by omega) ?_
  refine x_ret dX0_keeps_44 rfl ?_
  have em : bRem (u + 1) 30 = (u + 1) % 30 := bRem_nn ⟨by omega, by omega⟩ ⟨by decide, by decide⟩
  rw [em]
  have fr : ∀ a, a ≠ x → (a < x + 275 + 31 * u ∨ x + 275 + 31 * u + 31 ≤ a) → am_st (am_st h1 x 6 ((u + 1) % 30)) x 5 (if n + 1 < 30 then n + 1 else 30) a = h a := fun a z0 z1 => by
    rw [am_st_o z0, am_st_o z0]
    exact hf1 a z1
  have fx : ∀ j, j ≠ 5 → j ≠ 6 → am_st (am_st h1 x 6 ((u + 1) % 30)) x 5 (if n + 1 < 30 then n + 1 else 30) x j = h x j := fun j z0 z1 => by
    rw [am_st_i z0, am_st_i z1, hf1 x (by omega)]
  have f6 : am_st (am_st h1 x 6 ((u + 1) % 30)) x 5 (if n + 1 < 30 then n + 1 else 30) x 6 = (u + 1) % 30 := by rw [am_st_i (by omega), am_st_s]
  have f5 : am_st (am_st h1 x 6 ((u + 1) % 30)) x 5 (if n + 1 < 30 then n + 1 else 30) x 5 = pushN n := by
    rw [am_st_s]
    unfold pushN
    (repeat' split) <;> omega
  have fp : ∀ a, x + 275 + 31 * u ≤ a → a < x + 275 + 31 * u + 31 → am_st (am_st h1 x 6 ((u + 1) % 30)) x 5 (if n + 1 < 30 then n + 1 else 30) a = h1 a := fun a z0 z1 => by
    rw [am_st_o (by omega), am_st_o (by omega)]
  generalize am_st (am_st h1 x 6 ((u + 1) % 30)) x 5 (if n + 1 < 30 then n + 1 else 30) = h2 at *
  have hgN : gN (pushG g) = pushN n := by show pushN (gN g) = _; rw [en]
  have hgH : gH (pushG g) = pushH n (gH g) (gS g) := by show pushH (gN g) _ _ = _; rw [en]
  refine k h2 ⟨⟨a1.1, by rw [fx _ (by omega) (by omega)]; exact a1.ht, a1.tx, a1.rc.fr fun a z0 z1 => fr a (by omega) (by omega)⟩, ⟨by rw [f5, hgN], by rw [f6]; omega, fun k z0 z1 => ?_⟩, fun i z0 z1 => ?_, ⟨by rw [fx _ (by omega) (by omega)]; exact d1, fun i z0 z1 => ?_⟩, ⟨by rw [fr (x + 2) (by omega) (by omega)]; exact e1, fun i z0 z1 => ?_⟩, by rw [fx _ (by omega) (by omega)]; exact f⟩ (fun a z0 z1 => fr a z1 (by omega)) (fun a z => fr a (by omega) (by omega))
  · rw [f6, hgN, hgH]
    rw [hgN] at z1
    show RC L h2 (pcA x ((u + 1) % 30) (pushN n) k) (gT g) (pushH n (gH g) (gS g) k)
    have hold : ∀ k', 0 ≤ k' → k' < n → pcA x u n k' ≠ x + 275 + 31 * u → RC L h2 (pcA x u n k') (gT g) (gH g k') := fun k' y0 y1 y2 => by
      refine (b3 k' y0 y1).fr fun a y3 y4 => fr a ?_ ?_
      · have := pcA_rg (x := x) (u := u) (n := n) (k := k')
        omega
      · unfold pcA at y2 y3 y4
        omega
    have hnew : RC L h2 (x + 275 + 31 * u) (gT g) (gS g) := hr1.fr fun a z0 z1 => fp a z0 (by omega)
    unfold pushN pushH
    unfold pushN at z1
    by_cases e30 : n = 30
    · rw [if_pos e30, if_pos e30]
      rw [if_pos e30] at z1
      by_cases e29 : k = 29
      · rw [if_pos e29, show pcA x ((u + 1) % 30) 30 k = x + 275 + 31 * u by unfold pcA; omega]
        exact hnew
      · rw [if_neg e29]
        have := hold (k + 1) (by omega) (by omega) (by unfold pcA; omega)
        rw [show pcA x ((u + 1) % 30) 30 k = pcA x u n (k + 1) by unfold pcA; omega]
        exact this
    · rw [if_neg e30, if_neg e30]
      rw [if_neg e30] at z1
      by_cases e : k = n
      · rw [if_pos e, show pcA x ((u + 1) % 30) (n + 1) k = x + 275 + 31 * u by unfold pcA; omega]
        exact hnew
      · rw [if_neg e]
        have := hold k (by omega) (by omega) (by unfold pcA; omega)
        rw [show pcA x ((u + 1) % 30) (n + 1) k = pcA x u n k by unfold pcA; omega]
        exact this
  · rw [fr (x + 180) (by omega) (by omega)]
    rcases c i z0 z1 with z | ⟨R, z2, z3, z4⟩
    · exact Or.inl z
    · exact Or.inr ⟨R, z2, z3, z4.fr fun a y0 y1 => fr a (by omega) (by omega)⟩
  · rw [fr (x + 271) (by omega) (by omega), fr (x + 272) (by omega) (by omega), fr (x + 274) (by omega) (by omega)]
    exact d2 i z0 z1
  · rw [fr (x + 4) (by omega) (by omega)]
    exact e2 i z0 z1
set_option maxHeartbeats 8000000 in
theorem C_X13_keeps {S' : Row} (hC : TwI L h o s g) (hI : SgI g b q) (hR : RwF (h (o + 38)) (tM (gT g)) S') (hI' : RowI (gT g) S' b q) (k : ∀ h', TwI L h' o s (setS (pushG g) S') → FO h h' o → Q (.inl []) L h') : am_C G mX13_keeps (d + 2) [aR o] L h Q := by
  have hC0 := hC
  obtain ⟨⟨a1, a2⟩, ⟨b1, b3⟩, c, ⟨d1, d2⟩, ⟨e1, e2⟩, f⟩ := hC
  have hL := a1.1
  have hn := hI.2.2.1
  have hT := hI.1
  generalize en : gN g = n at *
  have n60 : ∀ {R : Row}, RowI (gT g) R b q → ∀ m, 0 ≤ m → m < 7 → rN R m ≤ 60 := fun r m z0 z1 => (r.n60 hT m z0 z1).2
  -- behind the shift
  have tail : ∀ (h1 : am_H) (n1 : Int) (w1 : AV), (0 ≤ n1 ∧ n1 ≤ 29) → pushN n = n1 + 1 → (∀ a, a ≠ (o + 40) → a ≠ o → h1 a = h a) → (∀ j, j ≠ 58 → h1 o j = h o j) → h1 o 58 = n1 → (∀ k, 0 ≤ k → k < n1 → RwF (fun i => h1 (o + 40) (1290 * k + i)) (tM (gT g)) (pushH n (gH g) (gS g) k)) → pushH n (gH g) (gS g) n1 = gS g → am_X G mX13_keeps (d + 2) 50 [aR o, w1] [] L h1 Q := by
    intro h1 n1 w1 hn1 hpn fr1 fo1 h58 hold hnew
    refine x_iconst dX13_keeps_50 ?_
    refine x_istore_1 dX13_keeps_51 rfl ?_
    refine x_for 1290 (fun i h2 => (∀ a, a ≠ (o + 40) → h2 a = h1 a) ∧ (∀ j, j < 1290 * n1 → h2 (o + 40) j = h1 (o + 40) j) ∧ ∀ j, 0 ≤ j → j < i → h2 (o + 40) (1290 * n1 + j) = h (o + 37) j) (fun i h2 => am_X G mX13_keeps (d + 2) 52 [aR o, aI i] [] L h2 Q) (fun i h2 g0 g1 hP ih => ?_) h1 (by omega) ⟨fun _ _ => rfl, fun _ _ => rfl, fun j z0 z1 => by omega⟩
    obtain ⟨u1, u2, u3⟩ := hP
    have g58 : h2 o 58 = n1 := by rw [u1 o (by omega)]; exact h58
    refine x_iload_1 dX13_keeps_52 ?_
    refine x_sipush dX13_keeps_53 rfl ?_
    refine x_icmp_ge (tgt := 86) dX13_keeps_56 rfl (by omega) (by omega) (fun c56 => ?_) (fun c56 => ?_)
    · refine x_aload_0 dX13_keeps_86 ?_
      refine x_dup dX13_keeps_87 rfl ?_
      refine x_getI_ dX13_keeps_88 fl1632_13 (by first | (exact MdL.k0 (by assumption)) | (assumption)) (fun r88 => ?_)
      rw [g58] at r88 ⊢
      refine x_iconst dX13_keeps_91 ?_
      refine x_iadd dX13_keeps_92 ?_
      refine x_putI_ dX13_keeps_93 fl1632_13 (by first | (exact MdL.k0 (by assumption)) | (assumption)) (by omega) ?_
      refine x_aload_0 dX13_keeps_96 ?_
      have ei : i = 1290 := by omega
      subst ei
      refine x_callV0 dX13_keeps_97 rfl okX13_keepsRow q1571 q1573 qs54 (by first | assumption | (exact MdL.k0 (by assumption))) am_k13 rfl (C_X13_keepsRow hL (fun h4 v1 v2 => (x_k0 ?_)))
      refine x_ret dX13_keeps_100 rfl ?_
      have w58 : h4 o 58 = n1 + 1 := by rw [v1 _ (by omega), am_st_s]
      have wo : ∀ j, j ≠ 58 → h4 o j = h o j := fun j z => by rw [v1 _ (by omega), am_st_i z, u1 _ (by omega)]; exact fo1 j z
      have wa : ∀ a, a ≠ (o + 40) → a ≠ (o + 37) → a ≠ o → h4 a = h a := fun a z0 z1 z2 => by rw [v1 a z1, am_st_o z2, u1 a z0]; exact fr1 a z0 z2
      have wh : h4 (o + 40) = h2 (o + 40) := by rw [v1 _ (by omega), am_st_o (by omega)]
      have wn : ∀ j, 0 ≤ j → j < 1290 → h4 (o + 37) j = h (o + 38) j := fun j z0 z1 => by
        rw [v2 j z0 z1, am_st_o (by omega), u1 _ (by omega), fr1 _ (by omega) (by omega)]
      have hfT : MdT L h4 o s (gT g) := a1.fg (fun a i z0 z1 => by rw [wa a (by omega) (by omega) (by omega)]) (wo _ (by omega))
      have hgN : gN (setS (pushG g) S') = n1 + 1 := by show pushN (gN g) = _; rw [en]; exact hpn
      have hgH : gH (setS (pushG g) S') = pushH n (gH g) (gS g) := by show pushH (gN g) _ _ = _; rw [en]
      refine k h4 ⟨⟨hfT, ?_⟩, ⟨by rw [hgN]; exact w58, fun k z0 z1 => ?_⟩, fun i z0 z1 => ?_, ⟨by rw [wo _ (by omega)]; exact d1, fun i z0 z1 => ?_⟩, ⟨by rw [wo _ (by omega)]; exact e1, fun i z0 z1 => ?_⟩, by rw [wo _ (by omega)]; exact f⟩ (fun a z => wa a (by omega) (by omega) (by omega))
      · exact hR.fr hI' hT fun i z0 z1 => wn i z0 z1
      · rw [hgN] at z1
        rw [hgH]
        show RwF _ (tM (gT g)) _
        by_cases e : k = n1
        · rw [e, hnew]
          refine a2.fr hI.2.1 hT fun i y0 y1 => ?_
          rw [wh]
          exact u3 i y0 y1
        · have hIk : RowI (gT g) (pushH n (gH g) (gS g) k) b q := by
            unfold pushN at hpn
            unfold pushH
            have := hI.2.2.2.1
            rw [en] at this
            split
            · rename_i e30
              rw [if_pos e30] at hpn
              rw [if_neg (by omega)]
              exact this _ (by omega) (by omega)
            · rename_i e30
              rw [if_neg e30] at hpn
              rw [if_neg (by omega)]
              exact this _ (by omega) (by omega)
          refine (hold k z0 (by omega)).fr hIk hT fun i y0 y1 => ?_
          show h4 (o + 40) (1290 * k + i) = h1 (o + 40) (1290 * k + i)
          rw [wh]
          exact u2 _ (by omega)
      · rw [wa (o + 51) (by omega) (by omega) (by omega), wa (o + 52) (by omega) (by omega) (by omega)]
        exact c i z0 z1
      · rw [wa (o + 48) (by omega) (by omega) (by omega), wa (o + 49) (by omega) (by omega) (by omega), wa (o + 50) (by omega) (by omega) (by omega)]
        exact d2 i z0 z1
      · rw [wa (o + 1) (by omega) (by omega) (by omega)]
        exact e2 i z0 z1
    · refine x_aload_0 dX13_keeps_59 ?_
      refine x_getR dX13_keeps_60 fl1633_13 rfl (by first | (exact MdL.k0 (by assumption)) | (assumption)) (by first | (exact MdL.v_history (by assumption)) | (assumption)) ?_
      refine x_sipush dX13_keeps_63 rfl ?_
      refine x_aload_0 dX13_keeps_66 ?_
      refine x_getI_ dX13_keeps_67 fl1632_13 (by first | (exact MdL.k0 (by assumption)) | (assumption)) (fun r67 => ?_)
      rw [g58] at r67 ⊢
      refine x_imul dX13_keeps_70 ?_
      refine x_iload_1 dX13_keeps_71 ?_
      refine x_iadd dX13_keeps_72 ?_
      refine x_aload_0 dX13_keeps_73 ?_
      refine x_getR dX13_keeps_74 fl1629_13 rfl (by first | (exact MdL.k0 (by assumption)) | (assumption)) (by first | (exact MdL.v_now (by assumption)) | (assumption)) ?_
      refine x_iload_1 dX13_keeps_77 ?_
      refine x_iald_ dX13_keeps_78 (by first | (exact MdL.k_now (by assumption)) | (assumption)) (by first | (exact MdL.x_now (by assumption) (by omega) (by omega)) | (omega)) (fun r78 => ?_)
      refine x_iast_ dX13_keeps_79 (by first | (exact MdL.k_history (by assumption)) | (assumption)) (by first | (exact MdL.x_history (by assumption) (by omega) (by omega)) | (omega)) (by omega) ?_
      refine x_iinc1 dX13_keeps_80 rfl ?_
      refine x_goto (tgt := 52) dX13_keeps_83 rfl ?_
      refine ih _ (by omega) ⟨fun a ha => by rw [am_st_o ha]; exact u1 a ha, fun j z0 => by rw [am_st_i (by omega)]; exact u2 j z0, fun j z0 z1 => ?_⟩
      by_cases e : j = i
      · rw [e, am_st_s, u1 _ (by omega), fr1 _ (by omega) (by omega)]
      · rw [am_st_i (by omega)]
        exact u3 j z0 (by omega)
  refine x_start okX13_keeps rfl rfl rfl rfl ?_
  refine x_aload_0 dX13_keeps_0 ?_
  refine x_getI_ dX13_keeps_1 fl1632_13 (by first | (exact MdL.k0 (by assumption)) | (assumption)) (fun r1 => ?_)
  rw [b1] at r1 ⊢
  refine x_bipush dX13_keeps_4 rfl ?_
  refine x_icmp_ne (tgt := 50) dX13_keeps_6 rfl (by omega) (by omega) (fun c6 => ?_) (fun c6 => ?_)
  · refine tail h n _ (by omega) (by unfold pushN; rw [if_neg (by omega)]) (fun a _ _ => rfl) (fun j _ => rfl) b1 (fun k z0 z1 => ?_) (by unfold pushH; rw [if_neg (by omega), if_pos rfl])
    unfold pushH
    rw [if_neg (by omega), if_neg (by omega)]
    exact b3 k z0 z1
  · refine x_iconst dX13_keeps_9 ?_
    refine x_istore_1 dX13_keeps_10 rfl ?_
    refine x_for 37410 (fun i h2 => (∀ a, a ≠ (o + 40) → h2 a = h a) ∧ (∀ j, 0 ≤ j → j < i → h2 (o + 40) j = h (o + 40) (j + 1290)) ∧ ∀ j, i ≤ j → h2 (o + 40) j = h (o + 40) j) (fun i h2 => am_X G mX13_keeps (d + 2) 11 [aR o, aI i] [] L h2 Q) (fun i h2 g0 g1 hP ih => ?_) h (by omega) ⟨fun _ _ => rfl, fun j z0 z1 => by omega, fun j _ => rfl⟩
    obtain ⟨u1, u2, u3⟩ := hP
    have g58 : h2 o 58 = 30 := by rw [u1 o (by omega)]; omega
    refine x_iload_1 dX13_keeps_11 ?_
    refine x_ldcw (n := 37410) dX13_keeps_12 q2001 ?_
    refine x_icmp_ge (tgt := 40) dX13_keeps_15 rfl (by omega) (by omega) (fun c15 => ?_) (fun c15 => ?_)
    · refine x_aload_0 dX13_keeps_40 ?_
      refine x_dup dX13_keeps_41 rfl ?_
      refine x_getI_ dX13_keeps_42 fl1632_13 (by first | (exact MdL.k0 (by assumption)) | (assumption)) (fun r42 => ?_)
      rw [g58] at r42 ⊢
      refine x_iconst dX13_keeps_45 ?_
      refine x_isub dX13_keeps_46 ?_
      refine x_putI_ dX13_keeps_47 fl1632_13 (by first | (exact MdL.k0 (by assumption)) | (assumption)) (by omega) ?_
      refine tail _ 29 _ (by omega) (by unfold pushN; rw [if_pos (by omega)]; rfl) (fun a z0 z1 => by rw [am_st_o z1]; exact u1 a z0) (fun j z => by rw [am_st_i z, u1 o (by omega)]) (by rw [am_st_s]; rfl) (fun k z0 z1 => ?_) (by unfold pushH; rw [if_pos (by omega), if_pos rfl])
      unfold pushH
      rw [if_pos (by omega), if_neg (by omega)]
      have hIk := hI.2.2.2.1 (k + 1) (by omega) (by omega)
      refine (b3 (k + 1) (by omega) (by omega)).fr hIk hT fun i y0 y1 => ?_
      show am_st h2 o 58 _ (o + 40) (1290 * k + i) = h (o + 40) (1290 * (k + 1) + i)
      rw [am_st_o (by omega), u2 _ (by omega) (by omega)]
      congr 1
      omega
    · refine x_aload_0 dX13_keeps_18 ?_
      refine x_getR dX13_keeps_19 fl1633_13 rfl (by first | (exact MdL.k0 (by assumption)) | (assumption)) (by first | (exact MdL.v_history (by assumption)) | (assumption)) ?_
      refine x_iload_1 dX13_keeps_22 ?_
      refine x_aload_0 dX13_keeps_23 ?_
      refine x_getR dX13_keeps_24 fl1633_13 rfl (by first | (exact MdL.k0 (by assumption)) | (assumption)) (by first | (exact MdL.v_history (by assumption)) | (assumption)) ?_
      refine x_iload_1 dX13_keeps_27 ?_
      refine x_sipush dX13_keeps_28 rfl ?_
      refine x_iadd dX13_keeps_31 ?_
      refine x_iald_ dX13_keeps_32 (by first | (exact MdL.k_history (by assumption)) | (assumption)) (by first | (exact MdL.x_history (by assumption) (by omega) (by omega)) | (omega)) (fun r32 => ?_)
      refine x_iast_ dX13_keeps_33 (by first | (exact MdL.k_history (by assumption)) | (assumption)) (by first | (exact MdL.x_history (by assumption) (by omega) (by omega)) | (omega)) (by omega) ?_
      refine x_iinc1 dX13_keeps_34 rfl ?_
      refine x_goto (tgt := 11) dX13_keeps_37 rfl ?_
      refine ih _ (by omega) ⟨fun a ha => by rw [am_st_o ha]; exact u1 a ha, fun j z0 z1 => ?_, fun j z0 => by rw [am_st_i (by omega)]; exact u3 j (by omega)⟩
      by_cases e : j = i
      · rw [e, am_st_s, u3 _ (by omega)]
      · rw [am_st_i (by omega)]
        exact u2 j z0 (by omega)
end KEEPS
