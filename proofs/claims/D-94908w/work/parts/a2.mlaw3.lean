/-! THE TWIN READS: a law, its loop -/
set_option maxRecDepth 100000
section MLAW3
variable {G : am_G} {L : am_L} {h : am_H} {o s D N br br0 k n p c i3 : Int} {b : Int → Int} {d : Nat} {Q : am_O → am_L → am_H → Prop}
theorem tlF116 (hL : MdL L o) (hs : 0 ≤ s ∧ s ≤ 1) (hF : FT h o n p) (hb : h o 41 = br) (hbr : 130 * s ≤ br ∧ br < 130 * s + 128) (kk : ∀ h', FwL h h' o s c br → FT h' o n p → Q (.inl []) L h') : am_X G mX13_tellLaw (d + 7) 116 [aR o, aI k, aI br0, aI i3] [] L h Q := by
  have hf := hF.ty
  refine x_aload_0 dX13_tellLaw_116 ?_
  refine x_callV0 dX13_tellLaw_117 rfl okX13_term q1907 q1909 qs77 (by first | assumption | (exact MdL.k0 (by assumption))) am_k13 rfl (C_X13_termF (s := s) (c := c) hL hs hF hb ⟨hbr.1, by omega⟩ (fun h' z1 z2 z3 => (x_k0 ?_)))
  exact tlF120 hL hs z2 z3 ⟨by omega, by omega⟩ (fun h9 y1 y2 => kk h9 (z1.tr y1 (Int.le_refl _) (by omega)) y2)
theorem rb_as {α β γ : Type} (r : α ⊕ (Int × Int)) (f : α → β ⊕ (Int × Int)) (g : β → γ ⊕ (Int × Int)) : rb (rb r f) g = rb r (fun q => rb (f q) g) := by
  cases r <;> rfl
/-- all of a law: ifs from the n-th on, the sign behind it -/
def pLw (K V : Int → Int) (r : Nat) (a n : Int) (tl tt te : Int → Tau) : (Lam × Int) ⊕ (Int × Int) := rb (pIfs K V r a n tl tt te) fun q => rb (pM K 4 q.2) fun a1 => .inl (q.1, a1)
theorem pLw_no {K V : Int → Int} {r : Nat} {a n : Int} {tl tt te : Int → Tau} (q : K a ≠ 28) : pLw K V r a n tl tt te = rb (pS K V a) fun q => rb (pM K 4 q.2) fun a1 => .inl (lamOf n tl tt (upT te n q.1), a1) := by
  unfold pLw
  cases r with
  | zero =>
    rw [pIfs, if_neg q]
    cases pS K V a <;> rfl
  | succ r =>
    rw [pIfs, if_neg q]
    cases pS K V a <;> rfl
theorem pLw_yes {K V : Int → Int} {r : Nat} {a n : Int} {tl tt te : Int → Tau} (q : K a = 28) : pLw K V (r + 1) a n tl tt te = rb (pP a) fun a1 => rb (pS K V a1) fun q1 => rb (pM K 13 q1.2) fun a2 => rb (pS K V a2) fun q2 => rb (pM K 29 q2.2) fun a3 => rb (pS K V a3) fun q3 => rb (pM K 30 q3.2) fun a4 =>
    pLw K V r a4 (n + 1) (upT tl n q1.1) (upT tt n q2.1) (upT te n q3.1) := by
  unfold pLw
  rw [pIfs, if_pos q]
  simp only [rb_as]
theorem rb_F {α β : Type} {r : α ⊕ (Int × Int)} {f : α → Int ⊕ (Int × Int)} {g : α → Int → β} {e : Int × Int} (h : rb r f = .inr e) : rb r (fun q => rb (f q) fun a1 => (.inl (g q a1) : β ⊕ (Int × Int))) = .inr e := by
  cases r with
  | inr e2 => exact (by simpa [rb] using h)
  | inl q =>
    rw [rb_l] at h ⊢
    rw [h, rb_r]
set_option maxHeartbeats 4000000 in
theorem mlaw_no (hs : 0 ≤ s ∧ s ≤ 1) (hbr : 130 * s ≤ br0 ∧ br0 < 130 * s + 120) (hk : -1 ≤ k ∧ k ≤ 7) {r : Nat} {h : am_H} {a n c : Int} {tl tt te : Int → Tau} (hR : RdM L h o b D N) (x1 : h o 13 = 0) (x2 : h o 11 = a) (x3 : h o 12 = 0) (x4 : h o 47 = c) (x5 : h o 19 = s) (ha : inN N a) (hc : 420 * s ≤ c ∧ c ≤ 420 * s + a) (hn4 : n ≤ 4) (hn0 : 0 ≤ n) (hb : h o 41 = br0 + n) (hT : LwT h o s br0 n c tl tt te) (q : sK b D a ≠ 28)
    (kS : ∀ la a' c' m h', pLw (sK b D) (sV b D) r a n tl tt te = .inl (la, a') → a < a' → inN N a' → FwL h h' o s c (br0 + n) → (h' o 13 = 0 ∧ h' o 11 = a' ∧ h' o 12 = 0 ∧ h' o 47 = c' ∧ h' o 41 = br0 + m + 1) → c' ≤ 420 * s + a' → (0 ≤ m ∧ m ≤ 4 ∧ 4 * (m - n) + 2 ≤ a' - a) → LwB h' o s br0 (br0 + m + 1) la → Q (.inl []) L (lawH h' o s k br0 (br0 + m + 1)))
    (kF : ∀ n9 tk h', pLw (sK b D) (sV b D) r a n tl tt te = .inr (n9, tk) → FwL h h' o s c (br0 + n) → FT h' o n9 (sP b D tk) → (0 ≤ tk ∧ tk ≤ N) → Q (.inl []) L h') : am_X G mX13_tellLaw (d + 7) 12 [aR o, aI k, aI br0, aI i3] [] L h Q := by
  have hp := pLw_no (V := sV b D) (r := r) (n := n) (tl := tl) (tt := tt) (te := te) q
  exact tlEnd hs hR x1 x2 x3 x4 x5 ha hc ⟨hn0, hn4⟩ hb hbr hk hT q (fun t a' c' h' z1 z2 z3 z4 z5 z6 z7 z8 z9 => kS _ (a' + 1) c' n h' (by rw [hp, z1, rb_l]; show rb (pM (sK b D) 4 a') _ = _; rw [pM_ok z2 z3, rb_l]) (by omega) (hR.nx z5 (by omega) (by omega) z3) z6 z7 (by omega) ⟨hn0, hn4, by omega⟩ z9) (fun n9 tk h' z1 z2 z3 z4 => kF n9 tk h' (by rw [hp]; exact rb_F z1) z2 z3 z4)
set_option maxHeartbeats 8000000 in
theorem mlaw_loop (hs : 0 ≤ s ∧ s ≤ 1) (hbr : 130 * s ≤ br0 ∧ br0 < 130 * s + 120) (hk : -1 ≤ k ∧ k ≤ 7) : ∀ (r : Nat) {h : am_H} {a n c : Int} {tl tt te : Int → Tau}, RdM L h o b D N → h o 13 = 0 → h o 11 = a → h o 12 = 0 → h o 47 = c → h o 19 = s → inN N a → (420 * s ≤ c ∧ c ≤ 420 * s + a) → n = 4 - r → 0 ≤ n → h o 41 = br0 + n → LwT h o s br0 n c tl tt te →
    (∀ la a' c' m h', pLw (sK b D) (sV b D) r a n tl tt te = .inl (la, a') → a < a' → inN N a' → FwL h h' o s c (br0 + n) → (h' o 13 = 0 ∧ h' o 11 = a' ∧ h' o 12 = 0 ∧ h' o 47 = c' ∧ h' o 41 = br0 + m + 1) → c' ≤ 420 * s + a' → (0 ≤ m ∧ m ≤ 4 ∧ 4 * (m - n) + 2 ≤ a' - a) → LwB h' o s br0 (br0 + m + 1) la → Q (.inl []) L (lawH h' o s k br0 (br0 + m + 1))) →
    (∀ n9 tk h', pLw (sK b D) (sV b D) r a n tl tt te = .inr (n9, tk) → FwL h h' o s c (br0 + n) → FT h' o n9 (sP b D tk) → (0 ≤ tk ∧ tk ≤ N) → Q (.inl []) L h') → am_X G mX13_tellLaw (d + 7) 12 [aR o, aI k, aI br0, aI n] [] L h Q := by
  intro r
  induction r with
  | zero =>
    intro h a n c tl tt te hR x1 x2 x3 x4 x5 ha hc hn hn0 hb hT kS kF
    have hL := hR.ml
    have ha0 := ha.1
    have ha4 := ha.2
    by_cases q : sK b D a = 28
    · have hp : pLw (sK b D) (sV b D) 0 a n tl tt te = .inr (2, a) := by
        unfold pLw
        rw [pIfs, if_pos q, rb_r]
      have hF := FT.of (h := h) (n := 2) x2 ⟨by omega, ha4⟩ (Or.inr rfl) (sP b D a)
      have hf := hF.ty
      have h38 : am_X G mX13_tellLaw (d + 7) 38 [aR o, aI k, aI br0, aI n] [] L (failH h o 2 (sP b D a)) Q := by
        refine x_aload_0 dX13_tellLaw_38 ?_
        refine x_getI_ dX13_tellLaw_39 fl1587_13 (by first | (exact MdL.k0 (by assumption)) | (assumption)) (fun r39 => ?_)
        refine x_if_le (tgt := 46) dX13_tellLaw_42 rfl (by omega) (fun c42 => ?_) (fun c42 => ?_)
        · exfalso; omega
        · refine x_ret dX13_tellLaw_45 rfl ?_
          exact kF 2 a _ hp (FwL.rf _ _ _ _ _).fail hF ha.1
      refine x_aload_0 dX13_tellLaw_12 ?_
      refine x_getI_ dX13_tellLaw_13 fl1587_13 (by first | (exact MdL.k0 (by assumption)) | (assumption)) (fun r13 => ?_)
      rw [x1] at r13 ⊢
      refine x_if_ne (tgt := 129) dX13_tellLaw_16 rfl (by omega) (fun c16 => ?_) (fun c16 => ?_)
      · first
        | exact absurd rfl c16
        | exact absurd c25 (by decide)
      · refine x_aload_0 dX13_tellLaw_19 ?_
        refine x_bipush dX13_tellLaw_20 rfl ?_
        refine x_callV1 dX13_tellLaw_22 rfl okX13_is q1839 q1841 qs60 (by first | assumption | (exact MdL.k0 (by assumption))) am_k13 rfl (C_X13_is hR x1 x2 ha ⟨by decide, by decide⟩ (x_k1 ?_))
        rw [if_pos q]
        refine x_if_eq (tgt := 129) dX13_tellLaw_25 rfl (by omega) (fun c25 => ?_) (fun c25 => ?_)
        · first
          | exact absurd rfl c16
          | exact absurd c25 (by decide)
        · refine x_iload_3 dX13_tellLaw_28 ?_
          refine x_iconst dX13_tellLaw_29 ?_
          refine x_icmp_ne (tgt := 38) dX13_tellLaw_30 rfl (by omega) (by omega) (fun c30 => ?_) (fun c30 => ?_)
          · first
            | exact h38
            | (exfalso; omega)
          · refine x_aload_0 dX13_tellLaw_33 ?_
            refine x_iconst dX13_tellLaw_34 ?_
            refine x_callV1 dX13_tellLaw_35 rfl okX13_fail q1851 q1853 qs63 (by first | assumption | (exact MdL.k0 (by assumption))) am_k13 rfl (C_X13_fail hR x1 x2 ha (by decide) (x_k0 ?_))
            first
            | exact h38
            | (exfalso; omega)
    · exact mlaw_no (r := 0) hs hbr hk hR x1 x2 x3 x4 x5 ha hc (by omega) hn0 hb hT q kS kF
  | succ r ih =>
    intro h a n c tl tt te hR x1 x2 x3 x4 x5 ha hc hn hn0 hb hT kS kF
    have hL := hR.ml
    have ha0 := ha.1
    have ha4 := ha.2
    by_cases q : sK b D a = 28
    · have hp := pLw_yes (V := sV b D) (r := r) (n := n) (tl := tl) (tt := tt) (te := te) q
      have h46 : am_X G mX13_tellLaw (d + 7) 46 [aR o, aI k, aI br0, aI n] [] L h Q := by
        by_cases q4 : 400 ≤ a
        · rw [pP_2 q4, rb_r] at hp
          have hF := FT.of (h := h) (n := 2) x2 ⟨by omega, ha4⟩ (Or.inr rfl) (sP b D a)
          have hb2 : failH h o 2 (sP b D a) o 41 = br0 + n := by simp (disch := omega) only [failH, am_st_i, am_st_o, am_st_s]; exact hb
          refine x_iinc3 dX13_tellLaw_46 rfl ?_
          refine x_aload_0 dX13_tellLaw_49 ?_
          refine x_callV0 dX13_tellLaw_50 rfl okX13_goesOn q1847 q1849 qs62 (by first | assumption | (exact MdL.k0 (by assumption))) am_k13 rfl (C_X13_goesOn hR x1 x2 ha (fun z => by exfalso; omega) (fun z => (x_k0 ?_)))
          exact tlF53 (s := s) (c := c) hL hs hF hb2 ⟨by omega, by omega⟩ (fun h9 y1 y2 => kF 2 a h9 hp ((FwL.rf _ _ _ _ _).fail.tr y1 (Int.le_refl _) (Int.le_refl _)) y2 ha.1)
        · rw [pP_ok (by omega), rb_l] at hp
          have han := hR.nx ha (by omega) (by omega) (by omega)
          generalize hB : am_st (am_st (am_st h o 11 (a + 1)) (o + 27) (br0 + n) 1) (o + 28) (br0 + n) c = hb1
          have fB : FwL h hb1 o s c (br0 + n) := by
            rw [← hB]
            exact (((FwL.rf h o s c (br0 + n)).st (by omega)).bs (by omega) (by omega)).bs (by omega) (by omega)
          have oB : ∀ j, j ≠ 11 → hb1 o j = h o j := fun j z => by rw [← hB, am_st_o (by omega), am_st_o (by omega), am_st_i z]
          have tB : hb1 o 11 = a + 1 := by rw [← hB, am_st_o (by omega), am_st_o (by omega), am_st_s]
          have kB : hb1 (o + 27) (br0 + n) = 1 ∧ hb1 (o + 28) (br0 + n) = c := by
            rw [← hB]
            refine ⟨?_, ?_⟩
            · rw [am_st_o (by omega), am_st_s]
            · rw [am_st_s]
          have hRB := hR.fl fB
          have h76 : am_X G mX13_tellLaw (d + 7) 76 [aR o, aI k, aI br0, aI (n + 1)] [] L hb1 Q := by
            -- the first sum
            have h86 : ∀ t1 a1 c1 h1, pS (sK b D) (sV b D) (a + 1) = .inl (t1, a1) → a + 1 < a1 → inN N a1 → FrE hb1 h1 o s c 0 → (h1 o 13 = 0 ∧ h1 o 11 = a1 ∧ h1 o 12 = 0 ∧ h1 o 47 = c1) → SgE h1 o c c1 t1 → c < c1 → c1 ≤ 420 * s + a1 → am_X G mX13_tellLaw (d + 7) 80 [aR o, aI k, aI br0, aI (n + 1)] [] L h1 Q := by
              intro t1 a1 c1 h1 z1 z2 z3 z4 z5 z6 z7 z8
              rw [z1, rb_l] at hp
              have f1 : FwL h h1 o s c (br0 + n) := fB.tr z4.l (Int.le_refl _) (Int.le_refl _)
              have hR1 := hRB.fe z4
              have o1 : ∀ j, j ≠ 11 → j ≠ 12 → j ≠ 13 → j ≠ 14 → j ≠ 47 → j ≠ 51 → h1 o j = h o j := fun j y1 y2 y3 y4 y5 y6 => (z4.2.2.2 j y1 y2 y3 y4 y5 y6).trans (oB j y1)
              have b1 : h1 o 41 = br0 + n := (o1 _ (by decide) (by decide) (by decide) (by decide) (by decide) (by decide)).trans hb
              have k1 : h1 (o + 27) (br0 + n) = 1 ∧ h1 (o + 28) (br0 + n) = c := by rw [z4.2.2.1 _ (by omega) (by omega) (by omega) (by omega), z4.2.2.1 _ (by omega) (by omega) (by omega) (by omega)]; exact kB
              have za := z3.1
              have zb := z3.2
              have hbad : ∀ n9, (n9 = 1 ∨ n9 = 2) → pLw (sK b D) (sV b D) (r + 1) a n tl tt te = .inr (n9, a1) → am_X G mX13_tellLaw (d + 7) 86 [aR o, aI k, aI br0, aI (n + 1)] [] L (failH h1 o n9 (sP b D a1)) Q := by
                intro n9 y1 y2
                exact tlF86 (s := s) (c := c) hL hs (FT.of z5.2.1 ⟨by omega, zb⟩ y1 _) (by simp (disch := omega) only [failH, am_st_i, am_st_o, am_st_s]; exact b1) ⟨by omega, by omega⟩ (fun h9 y3 y4 => kF n9 a1 h9 y2 (f1.fail.tr y3 (Int.le_refl _) (Int.le_refl _)) y4 z3.1)
              have hgood : sK b D a1 = 13 → a1 < 400 → am_X G mX13_tellLaw (d + 7) 86 [aR o, aI k, aI br0, aI (n + 1)] [] L (am_st h1 o 11 (a1 + 1)) Q := by
                intro y1 y2
                rw [pM_ok y1 y2, rb_l] at hp
                have han1 := hR1.nx z3 (by omega) (by omega) y2
                generalize hE : am_st (am_st h1 o 11 (a1 + 1)) (o + 29) (br0 + n) c1 = he
                have fE : FwL h he o s c (br0 + n) := by
                  rw [← hE]
                  exact (f1.st (by omega)).bs (by omega) (by omega)
                have oE : ∀ j, j ≠ 11 → he o j = h1 o j := fun j z => by rw [← hE, am_st_o (by omega), am_st_i z]
                have wE : ∀ y, y ≠ o → y ≠ (o + 29) → he y = h1 y := fun y z0 z1 => by rw [← hE, am_st_o z1, am_st_o z0]
                have kE : he (o + 29) (br0 + n) = c1 := by rw [← hE, am_st_s]
                have tE : he o 11 = a1 + 1 := by rw [← hE, am_st_o (by omega), am_st_s]
                have hRE := hR.fl fE
                have sE : SgE he o c c1 t1 := by
                  obtain ⟨m, z6⟩ := z6
                  refine ⟨m, ?_⟩
                  rw [wE _ (by omega) (by omega), wE _ (by omega) (by omega)]
                  exact z6
                have hE1 : he o 13 = 0 := (oE _ (by decide)).trans z5.1
                have h106 : am_X G mX13_tellLaw (d + 7) 106 [aR o, aI k, aI br0, aI (n + 1)] [] L he Q := by
                  -- the second sum
                  have h113 : ∀ t2 a2 c2 h2, pS (sK b D) (sV b D) (a1 + 1) = .inl (t2, a2) → a1 + 1 < a2 → inN N a2 → FrE he h2 o s c1 0 → (h2 o 13 = 0 ∧ h2 o 11 = a2 ∧ h2 o 12 = 0 ∧ h2 o 47 = c2) → SgE h2 o c1 c2 t2 → c1 < c2 → c2 ≤ 420 * s + a2 → am_X G mX13_tellLaw (d + 7) 110 [aR o, aI k, aI br0, aI (n + 1)] [] L h2 Q := by
                    intro t2 a2 c2 h2 v1 v2 v3 v4 v5 v6 v7 v8
                    rw [v1, rb_l] at hp
                    have f2 : FwL h h2 o s c (br0 + n) := fE.tr v4.l (by omega) (Int.le_refl _)
                    have hR2 := hRE.fe v4
                    have b2 : h2 o 41 = br0 + n := ((v4.2.2.2 _ (by decide) (by decide) (by decide) (by decide) (by decide) (by decide)).trans (oE _ (by decide))).trans b1
                    have k2 : h2 (o + 27) (br0 + n) = 1 ∧ h2 (o + 28) (br0 + n) = c ∧ h2 (o + 29) (br0 + n) = c1 := by
                      rw [v4.2.2.1 _ (by omega) (by omega) (by omega) (by omega), v4.2.2.1 _ (by omega) (by omega) (by omega) (by omega), v4.2.2.1 _ (by omega) (by omega) (by omega) (by omega), wE _ (by omega) (by omega), wE _ (by omega) (by omega)]
                      exact ⟨k1.1, k1.2, kE⟩
                    have s2 := sE.fe v4 (Int.le_refl _)
                    have va := v3.1
                    have vb := v3.2
                    have hbad2 : ∀ n9, (n9 = 1 ∨ n9 = 2) → pLw (sK b D) (sV b D) (r + 1) a n tl tt te = .inr (n9, a2) → am_X G mX13_tellLaw (d + 7) 116 [aR o, aI k, aI br0, aI (n + 1)] [] L (failH h2 o n9 (sP b D a2)) Q := by
                      intro n9 y1 y2
                      exact tlF116 (s := s) (c := c) hL hs (FT.of v5.2.1 ⟨by omega, vb⟩ y1 _) (by simp (disch := omega) only [failH, am_st_i, am_st_o, am_st_s]; exact b2) ⟨by omega, by omega⟩ (fun h9 y3 y4 => kF n9 a2 h9 y2 (f2.fail.tr y3 (Int.le_refl _) (Int.le_refl _)) y4 v3.1)
                    have hgood2 : sK b D a2 = 29 → a2 < 400 → am_X G mX13_tellLaw (d + 7) 116 [aR o, aI k, aI br0, aI (n + 1)] [] L (am_st h2 o 11 (a2 + 1)) Q := by
                      intro w1 w2
                      rw [pM_ok w1 w2, rb_l] at hp
                      have han2 := hR2.nx v3 (by omega) (by omega) w2
                      have hR3 : RdM L (am_st h2 o 11 (a2 + 1)) o b D N := hR2.st0
                      have f3 : FwL h (am_st h2 o 11 (a2 + 1)) o s c (br0 + n) := f2.st (by omega)
                      have u1 : am_st h2 o 11 (a2 + 1) o 13 = 0 := by rw [am_st_i (by decide)]; exact v5.1
                      have u3 : am_st h2 o 11 (a2 + 1) o 12 = 0 := by rw [am_st_i (by decide)]; exact v5.2.2.1
                      have u4 : am_st h2 o 11 (a2 + 1) o 47 = c2 := by rw [am_st_i (by decide)]; exact v5.2.2.2
                      have u5 : am_st h2 o 11 (a2 + 1) o 41 = br0 + n := by rw [am_st_i (by decide)]; exact b2
                      have wo : ∀ y, y ≠ o → am_st h2 o 11 (a2 + 1) y = h2 y := fun y z => am_st_o z
                      refine x_aload_0 dX13_tellLaw_116 ?_
                      refine x_callV0 dX13_tellLaw_117 rfl okX13_term q1907 q1909 qs77 (by first | assumption | (exact MdL.k0 (by assumption))) am_k13 rfl (C_X13_term hs hR3 u1 am_st_s u3 u4 han2 ⟨by omega, by omega⟩ u5 ⟨by omega, by omega⟩ (fun t3 a3 c3 h3 p1 p2 p3 p4 p5 p6 p7 p8 p9 p10 => (x_k0 ?_)) (fun n9 tk h3 p1 p2 p3 p4 p5 => (x_k0 ?_)))
                      · rw [p1, rb_l] at hp
                        have f4 : FwL h h3 o s c (br0 + n) := f3.tr p4 (by omega) (Int.le_refl _)
                        have hR4 := hR.fl f4
                        have pa := p3.1
                        have pb := p3.2
                        have b4 : h3 o 41 = br0 + n + 1 := p6
                        have hbad3 : ∀ n9, (n9 = 1 ∨ n9 = 2) → pLw (sK b D) (sV b D) (r + 1) a n tl tt te = .inr (n9, a3) → am_X G mX13_tellLaw (d + 7) 126 [aR o, aI k, aI br0, aI (n + 1)] [] L (failH h3 o n9 (sP b D a3)) Q := by
                          intro n9 y1 y2
                          refine x_goto (tgt := 12) dX13_tellLaw_126 rfl ?_
                          exact tlF12 (s := s) (c := c) hL hs (FT.of p5.2.1 ⟨by omega, pb⟩ y1 _) (by simp (disch := omega) only [failH, am_st_i, am_st_o, am_st_s]; exact b4) ⟨by omega, by omega⟩ (fun h9 y3 y4 => kF n9 a3 h9 y2 (f4.fail.tr y3 (Int.le_refl _) (by omega)) y4 p3.1)
                        have hgood3 : sK b D a3 = 30 → a3 < 400 → am_X G mX13_tellLaw (d + 7) 126 [aR o, aI k, aI br0, aI (n + 1)] [] L (am_st h3 o 11 (a3 + 1)) Q := by
                          intro y1 y2
                          rw [pM_ok y1 y2, rb_l] at hp
                          have f5 : FwL h (am_st h3 o 11 (a3 + 1)) o s c (br0 + n) := f4.st (by omega)
                          have wo3 : ∀ y, y ≠ o → am_st h3 o 11 (a3 + 1) y = h3 y := fun y z => am_st_o z
                          have hT5 : LwT (am_st h3 o 11 (a3 + 1)) o s br0 (n + 1) c3 (upT tl n t1) (upT tt n t2) (upT te n t3) := by
                            have ws : ∀ {u v : Int} {ta : Tau}, SgE h3 o u v ta → SgE (am_st h3 o 11 (a3 + 1)) o u v ta := fun q => by
                              obtain ⟨m, q⟩ := q
                              refine ⟨m, ?_⟩
                              rw [wo3 _ (by omega), wo3 _ (by omega)]
                              exact q
                            intro j j0 j1
                            unfold upT
                            by_cases qj : j = n
                            · subst qj
                              rw [if_pos rfl, if_pos rfl, if_pos rfl, wo3 _ (by omega), wo3 _ (by omega), wo3 _ (by omega), wo3 _ (by omega), wo3 _ (by omega), p10.1, p10.2.1, p10.2.2.1, p10.2.2.2.1, p10.2.2.2.2, wo _ (by omega), wo _ (by omega), wo _ (by omega), k2.1, k2.2.1, k2.2.2]
                              have s3 : SgE (am_st h2 o 11 (a2 + 1)) o c c1 t1 := by
                                obtain ⟨m, s2⟩ := s2
                                refine ⟨m, ?_⟩
                                rw [wo _ (by omega), wo _ (by omega)]
                                exact s2
                              have s4 : SgE (am_st h2 o 11 (a2 + 1)) o c1 c2 t2 := by
                                obtain ⟨m, v6⟩ := v6
                                refine ⟨m, ?_⟩
                                rw [wo _ (by omega), wo _ (by omega)]
                                exact v6
                              exact ⟨rfl, ⟨by omega, by omega⟩, ws (s3.fl p4 (by omega)), ws (s4.fl p4 (Int.le_refl _)), ws p7⟩
                            · rw [if_neg qj, if_neg qj, if_neg qj]
                              have := ((hT.fl f5 (Int.le_refl _) (Int.le_refl _)).cc (c' := c3) (by omega)) j j0 (by omega)
                              exact this
                          refine x_goto (tgt := 12) dX13_tellLaw_126 rfl ?_
                          refine ih (hR4.st0) (by rw [am_st_i (by decide)]; exact p5.1) am_st_s (by rw [am_st_i (by decide)]; exact p5.2.2.1) (by rw [am_st_i (by decide)]; exact p5.2.2.2) ?_ (hR4.nx p3 (by omega) (by omega) y2) ⟨by omega, by omega⟩ (by omega) (by omega) (by rw [am_st_i (by decide), b4]; omega) hT5 (fun la a9 c9 m h9 e1 e2 e3 e4 e5 e6 e7 e8 => kS la a9 c9 m h9 (by rw [hp]; exact e1) (by omega) e3 (f5.tr e4 (by omega) (by omega)) e5 e6 ⟨e7.1, e7.2.1, by omega⟩ e8) (fun n9 tk h9 e1 e2 e3 e4 => kF n9 tk h9 (by rw [hp]; exact e1) (f5.tr e2 (by omega) (by omega)) e3 e4)
                          exact (f5.2.2.2 _ (by decide) (by decide) (by decide) (by decide) (by decide) (by decide) (by decide)).trans x5
                        refine x_aload_0 dX13_tellLaw_120 ?_
                        refine x_bipush dX13_tellLaw_121 rfl ?_
                        refine x_callV1 dX13_tellLaw_123 rfl okX13_must q1863 q1865 qs66 (by first | assumption | (exact MdL.k0 (by assumption))) am_k13 rfl (C_X13_must hR4 p5.1 p5.2.1 p3 ⟨by decide, by decide⟩ (fun y1 y2 => (x_k0 ?_)) (fun y1 => (x_k0 ?_)) (fun y1 y2 => (x_k0 ?_)))
                        · exact hgood3 y1 y2
                        · exact hbad3 1 (Or.inl rfl) (by rw [hp, pM_1 (show sK b D a3 ≠ 30 from y1), rb_r])
                        · exact hbad3 2 (Or.inr rfl) (by rw [hp, pM_2 y1 y2, rb_r])
                      · exact tlF120 (s := s) (c := c) hL hs p3 p5 ⟨by omega, by omega⟩ (fun h9 y3 y4 => kF n9 tk h9 (by rw [hp, p1, rb_r]) ((f3.tr p2 (by omega) (Int.le_refl _)).tr y3 (Int.le_refl _) (by omega)) y4 p4)
                    refine x_aload_0 dX13_tellLaw_110 ?_
                    refine x_bipush dX13_tellLaw_111 rfl ?_
                    refine x_callV1 dX13_tellLaw_113 rfl okX13_must q1863 q1865 qs66 (by first | assumption | (exact MdL.k0 (by assumption))) am_k13 rfl (C_X13_must hR2 v5.1 v5.2.1 v3 ⟨by decide, by decide⟩ (fun y1 y2 => (x_k0 ?_)) (fun y1 => (x_k0 ?_)) (fun y1 y2 => (x_k0 ?_)))
                    · exact hgood2 y1 y2
                    · exact hbad2 1 (Or.inl rfl) (by rw [hp, pM_1 (show sK b D a2 ≠ 29 from y1), rb_r])
                    · exact hbad2 2 (Or.inr rfl) (by rw [hp, pM_2 y1 y2, rb_r])
                  refine x_aload_0 dX13_tellLaw_106 ?_
                  refine x_callV0 dX13_tellLaw_107 rfl okX13_expression q1891 q1893 qs73 (by first | assumption | (exact MdL.k0 (by assumption))) am_k13 rfl (C_X13_expression hs hRE hE1 tE ((oE _ (by decide)).trans z5.2.2.1) ((oE _ (by decide)).trans z5.2.2.2) han1 ⟨by omega, by omega⟩ (fun t2 a2 c2 h2 v1 v2 v3 v4 v5 v6 v7 v8 => (x_k0 ?_)) (fun n9 tk h2 v1 v2 v3 v4 => (x_k0 ?_)))
                  · exact h113 t2 a2 c2 h2 v1 v2 v3 v4 v5 v6 v7 v8
                  · exact tlF110 (s := s) (c := c) hL hs v3 (((v2.2.2.2 _ (by decide) (by decide) (by decide) (by decide) (by decide) (by decide)).trans (oE _ (by decide))).trans b1) ⟨by omega, by omega⟩ (fun h9 y3 y4 => kF n9 tk h9 (by rw [hp, v1, rb_r]) ((fE.tr v2.l (by omega) (Int.le_refl _)).tr y3 (Int.le_refl _) (Int.le_refl _)) y4 v4)
                have b9 : am_st h1 o 11 (a1 + 1) o 41 = br0 + n := by rw [am_st_i (by decide)]; exact b1
                have c9 : am_st h1 o 11 (a1 + 1) o 47 = c1 := by rw [am_st_i (by decide)]; exact z5.2.2.2
                refine x_aload_0 dX13_tellLaw_86 ?_
                refine x_getR dX13_tellLaw_87 fl1618_13 rfl (by first | (exact MdL.k0 (by assumption)) | (assumption)) (by first | (exact MdL.v_testMid (by assumption)) | (assumption)) ?_
                refine x_aload_0 dX13_tellLaw_90 ?_
                refine x_getI_ dX13_tellLaw_91 fl1615_13 (by first | (exact MdL.k0 (by assumption)) | (assumption)) (fun r91 => ?_)
                rw [b9] at r91 ⊢
                refine x_aload_0 dX13_tellLaw_94 ?_
                refine x_getI_ dX13_tellLaw_95 fl1621_13 (by first | (exact MdL.k0 (by assumption)) | (assumption)) (fun r95 => ?_)
                rw [c9] at r95 ⊢
                refine x_iast_ dX13_tellLaw_98 (by first | (exact MdL.k_testMid (by assumption)) | (assumption)) (by first | (exact MdL.x_testMid (by assumption) (by omega) (by omega)) | (omega)) (by omega) ?_
                rw [hE]
                refine x_aload_0 dX13_tellLaw_99 ?_
                refine x_getI_ dX13_tellLaw_100 fl1587_13 (by first | (exact MdL.k0 (by assumption)) | (assumption)) (fun r100 => ?_)
                rw [hE1] at r100 ⊢
                refine x_if_ne (tgt := 110) dX13_tellLaw_103 rfl (by omega) (fun c103 => ?_) (fun c103 => ?_)
                · exact absurd rfl c103
                · first
                  | exact h106
                  | exact absurd rfl c103
              refine x_aload_0 dX13_tellLaw_80 ?_
              refine x_bipush dX13_tellLaw_81 rfl ?_
              refine x_callV1 dX13_tellLaw_83 rfl okX13_must q1863 q1865 qs66 (by first | assumption | (exact MdL.k0 (by assumption))) am_k13 rfl (C_X13_must hR1 z5.1 z5.2.1 z3 ⟨by decide, by decide⟩ (fun y1 y2 => (x_k0 ?_)) (fun y1 => (x_k0 ?_)) (fun y1 y2 => (x_k0 ?_)))
              · exact hgood y1 y2
              · exact hbad 1 (Or.inl rfl) (by rw [hp, pM_1 (show sK b D a1 ≠ 13 from y1), rb_r])
              · exact hbad 2 (Or.inr rfl) (by rw [hp, pM_2 y1 y2, rb_r])
            refine x_aload_0 dX13_tellLaw_76 ?_
            refine x_callV0 dX13_tellLaw_77 rfl okX13_expression q1891 q1893 qs73 (by first | assumption | (exact MdL.k0 (by assumption))) am_k13 rfl (C_X13_expression hs hRB ((oB _ (by decide)).trans x1) tB ((oB _ (by decide)).trans x3) ((oB _ (by decide)).trans x4) han ⟨by omega, by omega⟩ (fun t1 a1 c1 h1 z1 z2 z3 z4 z5 z6 z7 z8 => (x_k0 ?_)) (fun n9 tk h1 z1 z2 z3 z4 => (x_k0 ?_)))
            · exact h86 t1 a1 c1 h1 z1 z2 z3 z4 z5 z6 z7 z8
            · exact tlF80 (s := s) (c := c) hL hs z3 ((z2.2.2.2 _ (by decide) (by decide) (by decide) (by decide) (by decide) (by decide)).trans ((oB _ (by decide)).trans hb)) ⟨by omega, by omega⟩ (fun h9 y3 y4 => kF n9 tk h9 (by rw [hp, z1, rb_r]) ((fB.tr z2.l (Int.le_refl _) (Int.le_refl _)).tr y3 (Int.le_refl _) (Int.le_refl _)) y4 z4)
          have bA : am_st h o 11 (a + 1) o 41 = br0 + n := by rw [am_st_i (by decide)]; exact hb
          have cA : am_st h o 11 (a + 1) o 47 = c := by rw [am_st_i (by decide)]; exact x4
          refine x_iinc3 dX13_tellLaw_46 rfl ?_
          refine x_aload_0 dX13_tellLaw_49 ?_
          refine x_callV0 dX13_tellLaw_50 rfl okX13_goesOn q1847 q1849 qs62 (by first | assumption | (exact MdL.k0 (by assumption))) am_k13 rfl (C_X13_goesOn hR x1 x2 ha (fun z => (x_k0 ?_)) (fun z => by exfalso; omega))
          refine x_aload_0 dX13_tellLaw_53 ?_
          refine x_getR dX13_tellLaw_54 fl1616_13 rfl (by first | (exact MdL.k0 (by assumption)) | (assumption)) (by first | (exact MdL.v_hasTest (by assumption)) | (assumption)) ?_
          refine x_aload_0 dX13_tellLaw_57 ?_
          refine x_getI_ dX13_tellLaw_58 fl1615_13 (by first | (exact MdL.k0 (by assumption)) | (assumption)) (fun r58 => ?_)
          simp (disch := omega) only [am_st_o, bA] at r58 ⊢
          refine x_iconst dX13_tellLaw_61 ?_
          refine x_zast_ dX13_tellLaw_62 (by first | (exact MdL.k_hasTest (by assumption)) | (assumption)) (by first | (exact MdL.x_hasTest (by assumption) (by omega) (by omega)) | (omega)) (by omega) ?_
          refine x_aload_0 dX13_tellLaw_63 ?_
          refine x_getR dX13_tellLaw_64 fl1617_13 rfl (by first | (exact MdL.k0 (by assumption)) | (assumption)) (by first | (exact MdL.v_testFrom (by assumption)) | (assumption)) ?_
          refine x_aload_0 dX13_tellLaw_67 ?_
          refine x_getI_ dX13_tellLaw_68 fl1615_13 (by first | (exact MdL.k0 (by assumption)) | (assumption)) (fun r68 => ?_)
          simp (disch := omega) only [am_st_o, bA] at r68 ⊢
          refine x_aload_0 dX13_tellLaw_71 ?_
          refine x_getI_ dX13_tellLaw_72 fl1621_13 (by first | (exact MdL.k0 (by assumption)) | (assumption)) (fun r72 => ?_)
          simp (disch := omega) only [am_st_o, cA] at r72 ⊢
          refine x_iast_ dX13_tellLaw_75 (by first | (exact MdL.k_testFrom (by assumption)) | (assumption)) (by first | (exact MdL.x_testFrom (by assumption) (by omega) (by omega)) | (omega)) (by omega) ?_
          rw [hB]
          exact h76
      refine x_aload_0 dX13_tellLaw_12 ?_
      refine x_getI_ dX13_tellLaw_13 fl1587_13 (by first | (exact MdL.k0 (by assumption)) | (assumption)) (fun r13 => ?_)
      rw [x1] at r13 ⊢
      refine x_if_ne (tgt := 129) dX13_tellLaw_16 rfl (by omega) (fun c16 => ?_) (fun c16 => ?_)
      · first
        | exact absurd rfl c16
        | exact absurd c25 (by decide)
      · refine x_aload_0 dX13_tellLaw_19 ?_
        refine x_bipush dX13_tellLaw_20 rfl ?_
        refine x_callV1 dX13_tellLaw_22 rfl okX13_is q1839 q1841 qs60 (by first | assumption | (exact MdL.k0 (by assumption))) am_k13 rfl (C_X13_is hR x1 x2 ha ⟨by decide, by decide⟩ (x_k1 ?_))
        rw [if_pos q]
        refine x_if_eq (tgt := 129) dX13_tellLaw_25 rfl (by omega) (fun c25 => ?_) (fun c25 => ?_)
        · first
          | exact absurd rfl c16
          | exact absurd c25 (by decide)
        · refine x_iload_3 dX13_tellLaw_28 ?_
          refine x_iconst dX13_tellLaw_29 ?_
          refine x_icmp_ne (tgt := 38) dX13_tellLaw_30 rfl (by omega) (by omega) (fun c30 => ?_) (fun c30 => ?_)
          · refine x_aload_0 dX13_tellLaw_38 ?_
            refine x_getI_ dX13_tellLaw_39 fl1587_13 (by first | (exact MdL.k0 (by assumption)) | (assumption)) (fun r39 => ?_)
            rw [x1] at r39 ⊢
            refine x_if_le (tgt := 46) dX13_tellLaw_42 rfl (by omega) (fun c42 => ?_) (fun c42 => ?_)
            · exact h46
            · exact absurd c42 (by decide)
          · exfalso; omega
    · exact mlaw_no (r := r + 1) hs hbr hk hR x1 x2 x3 x4 x5 ha hc (by omega) hn0 hb hT q kS kF
end MLAW3
