/-! READING: a whole sum by both; laws, as functions -/
set_option maxRecDepth 100000
/-- a sum from token a on -/
def pS (K V : Int → Int) (a : Int) : (Tau × Int) ⊕ (Int × Int) := pE K V 2010 3 0 a (fun _ => (0, 0))
/-- one after another -/
def rb {α β : Type} (r : α ⊕ (Int × Int)) (f : α → β ⊕ (Int × Int)) : β ⊕ (Int × Int) := match r with
  | .inl q => f q
  | .inr e => .inr e
theorem rb_l {α β : Type} (q : α) (f : α → β ⊕ (Int × Int)) : rb (.inl q) f = f q := rfl
theorem rb_r {α β : Type} (e : Int × Int) (f : α → β ⊕ (Int × Int)) : rb (.inr e) f = .inr e := rfl
/-- a token of the kind k must stand at a -/
def pM (K : Int → Int) (k a : Int) : Int ⊕ (Int × Int) := if K a ≠ k then .inr (1, a) else if 400 ≤ a then .inr (2, a) else .inl (a + 1)
/-- the token at a is passed -/
def pP (a : Int) : Int ⊕ (Int × Int) := if 400 ≤ a then .inr (2, a) else .inl (a + 1)
def upT (f : Int → Tau) (n : Int) (t : Tau) : Int → Tau := fun k => if k = n then t else f k
/-- from the n-th if on, r more may come -/
def pIfs (K V : Int → Int) : Nat → Int → Int → (Int → Tau) → (Int → Tau) → (Int → Tau) → (Lam × Int) ⊕ (Int × Int)
  | 0, a, n, tl, tt, te => if K a = 28 then .inr (2, a) else rb (pS K V a) fun q => .inl (lamOf n tl tt (upT te n q.1), q.2)
  | r + 1, a, n, tl, tt, te => if K a = 28 then rb (pP a) fun a1 => rb (pS K V a1) fun q1 => rb (pM K 13 q1.2) fun a2 => rb (pS K V a2) fun q2 => rb (pM K 29 q2.2) fun a3 => rb (pS K V a3) fun q3 => rb (pM K 30 q3.2) fun a4 =>
      pIfs K V r a4 (n + 1) (upT tl n q1.1) (upT tt n q2.1) (upT te n q3.1)
    else rb (pS K V a) fun q => .inl (lamOf n tl tt (upT te n q.1), q.2)
def t0T : Int → Tau := fun _ _ => (0, 0)
def pLaw (K V : Int → Int) (a : Int) : (Lam × Int) ⊕ (Int × Int) := rb (pM K 5 a) fun a1 => pIfs K V 4 a1 0 t0T t0T t0T
section BOTH
variable {G : am_G} {L : am_L} {h : am_H} {x o s D N a c : Int} {b : Int → Int} {d : Nat} {Q : am_O → am_L → am_H → Prop}
theorem rkE_2010 (h : 0 ≤ a) : rkE 3 a < ((2010 : Nat) : Int) := by
  unfold rkE
  simp only [if_true]
  (repeat' split) <;> omega
theorem C_X3_sum (hR : RdX L h x b D N) (hat : h (x + 9) 3 = a) (hop : h (x + 9) 4 = 0) (ha : inN N a)
    (kS : ∀ ta a' L' h' r, pS (sK b D) (sV b D) a = .inl (ta, a') → a < a' → inN N a' → XG L h L' h' x (a' - a) → SumF 420 L' (nx L) r ta → h' (x + 9) 3 = a' → (∀ j, j ≠ 3 → h' (x + 9) j = h (x + 9) j) → Q (.inl [aR r]) L' h')
    (kF : ∀ n tk L' h', pS (sK b D) (sV b D) a = .inr (n, tk) → XG L h L' h' x (401 - a) → (0 ≤ tk ∧ tk ≤ N) → h' (x + 1) 6 = n → h' (x + 1) 7 = sP b D tk → Q (.inr (x + 1)) L' h') : am_C G mX3_sum (d + 26) [aR (x + 9)] L h Q := by
  have := (XE_all (G := G) (x := x) (b := b) (D := D) (N := N) 2010 d 0 (by decide) (by decide)).2.2.2.1
  exact this L h Q a (fun _ => (0, 0)) hR hat hop ha (rkE_2010 ha.1.1) (fun ta a' L' h' r z1 z2 z3 z4 z5 z6 z7 => kS ta a' L' h' r z1 z2 z3 z4 (SumF.le (by have := z3.2; have := ha.1; omega) z5) z6 z7) kF
theorem C_X13_expression (hs : 0 ≤ s ∧ s ≤ 1) (hR : RdM L h o b D N) (x1 : h o 13 = 0) (x2 : h o 11 = a) (x3 : h o 12 = 0) (x4 : h o 47 = c) (ha : inN N a) (hc : 420 * s ≤ c ∧ c ≤ 420 * s + a)
    (kS : ∀ t a' c' h', pS (sK b D) (sV b D) a = .inl (t, a') → a < a' → inN N a' → FrE h h' o s c 0 → (h' o 13 = 0 ∧ h' o 11 = a' ∧ h' o 12 = 0 ∧ h' o 47 = c') → SgE h' o c c' t → c < c' → c' ≤ 420 * s + a' → Q (.inl []) L h')
    (kF : ∀ n tk h', pS (sK b D) (sV b D) a = .inr (n, tk) → FrE h h' o s c 0 → FT h' o n (sP b D tk) → (0 ≤ tk ∧ tk ≤ N) → Q (.inl []) L h') : am_C G mX13_expression (d + 5) [aR o] L h Q := by
  have hL := hR.ml
  refine x_start okX13_expression rfl rfl rfl rfl ?_
  generalize hh1 : am_st h o 51 0 = h1
  have f1 : FrE h h1 o s c 0 := by
    rw [← hh1]
    exact (FrE.rf h o s c 0).st (by omega)
  have y : ∀ j, j ≠ 51 → h1 o j = h o j := fun j z => by
    rw [← hh1, am_st_i z]
  have y5 : h1 o 51 = 0 := by rw [← hh1, am_st_s]
  have y1 : h1 o 13 = 0 := (y _ (by decide)).trans x1
  have y3 : h1 o 12 = 0 := (y _ (by decide)).trans x3
  have hst : ST L h1 o s c 0 D N b h1 a 0 c 0 := ⟨FrE.rf _ _ _ _ _, Int.le_refl _, hR.fe f1, ⟨y1, (y _ (by decide)).trans x2, y3, (y _ (by decide)).trans x4, y5⟩, ha, ⟨by omega, by omega⟩, by omega, by omega⟩
  have hSQ := (EQ_all (G := G) (d := d) (L := L) (Q := Q) (h0 := h1) (o := o) (s := s) (c0 := c) (base := 0) (D := D) (N := N) (b := b) hs (by decide) (by omega) hc.1 2010).2.2.2.1
  have h23 : XE G d L Q o 0 23 h1 := by
    refine hSQ h1 a 0 c 0 (fun _ => (0, 0)) hst (by omega) (Or.inl rfl) (rkE_2010 ha.1.1) (fun t a' c' w' h2 z1 z2 z3 z4 z5 z6 => ?_) (fun n tk h2 z1 z2 z3 z4 => kF n tk h2 z1 (f1.tr z2 (Int.le_refl _) (Int.le_refl _)) z3 z4)
    obtain ⟨g1, g2, hR2, ⟨v1, v2, v3, v4, v5⟩, ha2, hop2, hw2, hcw2⟩ := z5
    have hle := z6.le
    have ha3 := ha2.1
    have ha5 := ha2.2
    have hback : ∀ h3 c3, c3 + 0 = c' + w' → c' ≤ c3 → CoF h2 h3 o s c' → h3 o 47 = c3 → h3 o 51 = 0 → SgE h3 o c c3 t → Q (.inl []) L h3 := fun h3 c3 e1 e2 u1 u2 u3 u4 =>
      kS t a' c3 h3 z1 z2 ha2 ((f1.tr z4 (Int.le_refl _) (Int.le_refl _)).tr (u1.fe (w := 0)) g2 (Int.le_refl _)) ⟨(u1.2.2 _ (by decide) (by decide)).trans v1, (u1.2.2 _ (by decide) (by decide)).trans v2, (u1.2.2 _ (by decide) (by decide)).trans v3, u2⟩ u4 u4.lt (by omega)
    have h204 : am_X G mX13_expression (d + 5) 204 [aR o, aI 0, aI 0] [] L h2 Q := by
      refine x_aload_0 dX13_expression_204 ?_
      refine x_iconst dX13_expression_205 ?_
      refine x_callV1 dX13_expression_206 rfl okX13_comesOut q1903 q1905 qs76 (by first | assumption | (exact MdL.k0 (by assumption))) am_k13 rfl (co_S (w := 0) (m := c) (d := d + 2) hL v5 v4 ⟨by omega, by omega⟩ (Or.inl rfl) ⟨by omega, hs.1, hs.2, by omega⟩ z6 (fun h3 c3 e1 e2 u1 u2 u3 u4 => (x_k0 ?_)))
      refine x_ret dX13_expression_209 rfl ?_
      exact hback h3 c3 e1 e2 u1 u2 u3 u4
    show am_X G mX13_expression (d + 5) 96 [aR o, aI 0, aI 1] [] L h2 Q
    have h145 : am_X G mX13_expression (d + 5) 145 [aR o, aI 0, aI 1] [] L h2 Q := by
      refine x_aload_0 dX13_expression_145 ?_
      refine x_bipush dX13_expression_146 rfl ?_
      refine x_callV1 dX13_expression_148 rfl okX13_is q1839 q1841 qs60 (by first | assumption | (exact MdL.k0 (by assumption))) am_k13 rfl (C_X13_is hR2 v1 v2 ha2 ⟨by decide, by decide⟩ (x_k1 ?_))
      rw [if_neg z3.1]
      refine x_if_ne (tgt := 181) dX13_expression_151 rfl (by omega) (fun c151 => ?_) (fun c151 => ?_)
      · first
        | exact absurd rfl c151
        | exact absurd rfl c160
        | exact absurd rfl c169
        | exact absurd rfl c178
      · refine x_aload_0 dX13_expression_154 ?_
        refine x_bipush dX13_expression_155 rfl ?_
        refine x_callV1 dX13_expression_157 rfl okX13_is q1839 q1841 qs60 (by first | assumption | (exact MdL.k0 (by assumption))) am_k13 rfl (C_X13_is hR2 v1 v2 ha2 ⟨by decide, by decide⟩ (x_k1 ?_))
        rw [if_neg z3.2.1]
        refine x_if_ne (tgt := 181) dX13_expression_160 rfl (by omega) (fun c160 => ?_) (fun c160 => ?_)
        · first
          | exact absurd rfl c151
          | exact absurd rfl c160
          | exact absurd rfl c169
          | exact absurd rfl c178
        · refine x_aload_0 dX13_expression_163 ?_
          refine x_bipush dX13_expression_164 rfl ?_
          refine x_callV1 dX13_expression_166 rfl okX13_is q1839 q1841 qs60 (by first | assumption | (exact MdL.k0 (by assumption))) am_k13 rfl (C_X13_is hR2 v1 v2 ha2 ⟨by decide, by decide⟩ (x_k1 ?_))
          rw [if_neg z3.2.2.1]
          refine x_if_ne (tgt := 181) dX13_expression_169 rfl (by omega) (fun c169 => ?_) (fun c169 => ?_)
          · first
            | exact absurd rfl c151
            | exact absurd rfl c160
            | exact absurd rfl c169
            | exact absurd rfl c178
          · refine x_aload_0 dX13_expression_172 ?_
            refine x_bipush dX13_expression_173 rfl ?_
            refine x_callV1 dX13_expression_175 rfl okX13_is q1839 q1841 qs60 (by first | assumption | (exact MdL.k0 (by assumption))) am_k13 rfl (C_X13_is hR2 v1 v2 ha2 ⟨by decide, by decide⟩ (x_k1 ?_))
            rw [if_neg z3.2.2.2]
            refine x_if_eq (tgt := 185) dX13_expression_178 rfl (by omega) (fun c178 => ?_) (fun c178 => ?_)
            · refine x_iconst dX13_expression_185 ?_
              refine x_istore_2 dX13_expression_186 rfl ?_
              refine x_iload_2 dX13_expression_187 ?_
              refine x_if_ne (tgt := 210) dX13_expression_188 rfl (by omega) (fun c188 => ?_) (fun c188 => ?_)
              · exact absurd rfl c188
              · refine x_aload_0 dX13_expression_191 ?_
                refine x_getI_ dX13_expression_192 fl1586_13 (by first | (exact MdL.k0 (by assumption)) | (assumption)) (fun r192 => ?_)
                rw [v3] at r192 ⊢
                refine x_iload_1 dX13_expression_195 ?_
                refine x_icmp_le (tgt := 204) dX13_expression_196 rfl (by omega) (by omega) (fun c196 => ?_) (fun c196 => ?_)
                · exact h204
                · exfalso; omega
            · first
              | exact absurd rfl c151
              | exact absurd rfl c160
              | exact absurd rfl c169
              | exact absurd rfl c178
    refine x_aload_0 dX13_expression_96 ?_
    refine x_bipush dX13_expression_97 rfl ?_
    refine x_callV1 dX13_expression_99 rfl okX13_is q1839 q1841 qs60 (by first | assumption | (exact MdL.k0 (by assumption))) am_k13 rfl (C_X13_is hR2 v1 v2 ha2 ⟨by decide, by decide⟩ (x_k1 ?_))
    refine x_if_eq (tgt := 145) dX13_expression_102 rfl (by split <;> omega) (fun c102 => ?_) (fun c102 => ?_)
    · exact h145
    · refine x_aload_0 dX13_expression_105 ?_
      refine x_getI_ dX13_expression_106 fl1586_13 (by first | (exact MdL.k0 (by assumption)) | (assumption)) (fun r106 => ?_)
      rw [v3] at r106 ⊢
      refine x_iload_1 dX13_expression_109 ?_
      refine x_icmp_le (tgt := 145) dX13_expression_110 rfl (by omega) (by omega) (fun c110 => ?_) (fun c110 => ?_)
      · exact h145
      · exfalso; omega
  refine x_aload_0 dX13_expression_0 ?_
  refine x_iconst dX13_expression_1 ?_
  refine x_putI_ dX13_expression_2 fl1625_13 (by first | (exact MdL.k0 (by assumption)) | (assumption)) (by omega) ?_
  refine x_aload_0 dX13_expression_5 ?_
  refine x_getI_ dX13_expression_6 fl1586_13 (by first | (exact MdL.k0 (by assumption)) | (assumption)) (fun r6 => ?_)
  rw [show am_st h o 51 0 o 12 = 0 by rw [hh1]; exact y3] at r6 ⊢
  refine x_istore_1 dX13_expression_9 rfl ?_
  refine x_iconst dX13_expression_10 ?_
  refine x_istore_2 dX13_expression_11 rfl ?_
  rw [hh1]
  refine x_iload_2 dX13_expression_12 ?_
  refine x_if_eq (tgt := 272) dX13_expression_13 rfl (by omega) (fun c13 => ?_) (fun c13 => ?_)
  · first
    | exact absurd c13 (by decide)
    | exact absurd rfl c20
  · refine x_aload_0 dX13_expression_16 ?_
    refine x_getI_ dX13_expression_17 fl1587_13 (by first | (exact MdL.k0 (by assumption)) | (assumption)) (fun r17 => ?_)
    rw [y1] at r17 ⊢
    refine x_if_ne (tgt := 272) dX13_expression_20 rfl (by omega) (fun c20 => ?_) (fun c20 => ?_)
    · first
      | exact absurd c13 (by decide)
      | exact absurd rfl c20
    · exact h23
/-- a fault having been told, nothing is read -/
theorem C_X13_expression0 (hL : MdL L o) (hf : 0 < h o 13) (kk : Q (.inl []) L (am_st h o 51 0)) : am_C G mX13_expression (d + 5) [aR o] L h Q := by
  refine x_start okX13_expression rfl rfl rfl rfl ?_
  refine x_aload_0 dX13_expression_0 ?_
  refine x_iconst dX13_expression_1 ?_
  refine x_putI_ dX13_expression_2 fl1625_13 (by first | (exact MdL.k0 (by assumption)) | (assumption)) (by omega) ?_
  refine x_aload_0 dX13_expression_5 ?_
  refine x_getI_ dX13_expression_6 fl1586_13 (by first | (exact MdL.k0 (by assumption)) | (assumption)) (fun r6 => ?_)
  refine x_istore_1 dX13_expression_9 rfl ?_
  refine x_iconst dX13_expression_10 ?_
  refine x_istore_2 dX13_expression_11 rfl ?_
  skip
  refine x_iload_2 dX13_expression_12 ?_
  refine x_if_eq (tgt := 272) dX13_expression_13 rfl (by omega) (fun c13 => ?_) (fun c13 => ?_)
  · refine x_ret dX13_expression_272 rfl ?_
    exact kk
  · refine x_aload_0 dX13_expression_16 ?_
    refine x_getI_ dX13_expression_17 fl1587_13 (by first | (exact MdL.k0 (by assumption)) | (assumption)) (fun r17 => ?_)
    simp (disch := omega) only [am_st_i] at r17 ⊢
    refine x_if_ne (tgt := 272) dX13_expression_20 rfl (by omega) (fun c20 => ?_) (fun c20 => ?_)
    · refine x_ret dX13_expression_272 rfl ?_
      exact kk
    · exfalso; omega
end BOTH
