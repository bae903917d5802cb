/-! THE TWIN READS: a law, whole; what is told, as functions -/
set_option maxRecDepth 100000
def pLawS (K V : Int → Int) (a : Int) : (Lam × Int) ⊕ (Int × Int) := rb (pLaw K V a) fun q => rb (pM K 4 q.2) fun a1 => .inl (q.1, a1)
theorem pLawS_eq (K V : Int → Int) (a : Int) : pLawS K V a = rb (pM K 5 a) fun a1 => pLw K V 4 a1 0 t0T t0T t0T := by
  unfold pLawS pLaw pLw
  rw [rb_as]
section MLAW4
variable {G : am_G} {L : am_L} {h : am_H} {o s D N br k n p c a : Int} {b : Int → Int} {d : Nat} {Q : am_O → am_L → am_H → Prop}
theorem C_X13_tellLaw0 (hL : MdL L o) (hs : 0 ≤ s ∧ s ≤ 1) (hF : FT h o n p) (hb : h o 41 = br) (hbr : 130 * s ≤ br ∧ br < 130 * s + 130) (kk : ∀ h', FwL h h' o s c br → FT h' o n p → Q (.inl []) L h') : am_C G mX13_tellLaw (d + 7) [aR o, aI k] L h Q := by
  have hf := hF.ty
  refine x_start okX13_tellLaw rfl rfl rfl rfl ?_
  refine x_aload_0 dX13_tellLaw_0 ?_
  refine x_iconst dX13_tellLaw_1 ?_
  refine x_callV1 dX13_tellLaw_2 rfl okX13_must q1863 q1865 qs66 (by first | assumption | (exact MdL.k0 (by assumption))) am_k13 rfl (C_X13_must0 hL hf (x_k0 ?_))
  refine x_aload_0 dX13_tellLaw_5 ?_
  refine x_getI_ dX13_tellLaw_6 fl1615_13 (by first | (exact MdL.k0 (by assumption)) | (assumption)) (fun r6 => ?_)
  rw [hb] at r6 ⊢
  refine x_istore_2 dX13_tellLaw_9 rfl ?_
  refine x_iconst dX13_tellLaw_10 ?_
  refine x_istore_3 dX13_tellLaw_11 rfl ?_
  exact tlF12 hL hs hF hb hbr kk
theorem C_X13_tellLaw (hs : 0 ≤ s ∧ s ≤ 1) (hbr : 130 * s ≤ br ∧ br < 130 * s + 120) (hk : -1 ≤ k ∧ k ≤ 7) (hR : RdM L h o b D N) (x1 : h o 13 = 0) (x2 : h o 11 = a) (x3 : h o 12 = 0) (x4 : h o 47 = c) (x5 : h o 19 = s) (ha : inN N a) (hc : 420 * s ≤ c ∧ c ≤ 420 * s + a) (hb : h o 41 = br)
    (kS : ∀ la a' c' br' h', pLawS (sK b D) (sV b D) a = .inl (la, a') → a < a' → inN N a' → FwL h h' o s c br → (h' o 13 = 0 ∧ h' o 11 = a' ∧ h' o 12 = 0 ∧ h' o 47 = c' ∧ h' o 41 = br') → c' ≤ 420 * s + a' → (br < br' ∧ 4 * (br' - br) ≤ a' - a + 1) → LwB h' o s br br' la → Q (.inl []) L (lawH h' o s k br br'))
    (kF : ∀ n9 tk h', pLawS (sK b D) (sV b D) a = .inr (n9, tk) → FwL h h' o s c br → FT h' o n9 (sP b D tk) → (0 ≤ tk ∧ tk ≤ N) → Q (.inl []) L h') : am_C G mX13_tellLaw (d + 7) [aR o, aI k] L h Q := by
  have hL := hR.ml
  have ha0 := ha.1
  have ha4 := ha.2
  have hp := pLawS_eq (sK b D) (sV b D) a
  have hbad : ∀ n9, (n9 = 1 ∨ n9 = 2) → pLawS (sK b D) (sV b D) a = .inr (n9, a) → am_X G mX13_tellLaw (d + 7) 5 [aR o, aI k, aU, aU] [] L (failH h o n9 (sP b D a)) Q := by
    intro n9 y1 y2
    have b2 : failH h o n9 (sP b D a) o 41 = br := by simp (disch := omega) only [failH, am_st_i, am_st_o, am_st_s]; exact hb
    refine x_aload_0 dX13_tellLaw_5 ?_
    refine x_getI_ dX13_tellLaw_6 fl1615_13 (by first | (exact MdL.k0 (by assumption)) | (assumption)) (fun r6 => ?_)
    rw [b2] at r6 ⊢
    refine x_istore_2 dX13_tellLaw_9 rfl ?_
    refine x_iconst dX13_tellLaw_10 ?_
    refine x_istore_3 dX13_tellLaw_11 rfl ?_
    exact tlF12 (s := s) (c := c) hL hs (FT.of x2 ⟨by omega, ha4⟩ y1 _) b2 ⟨by omega, by omega⟩ (fun h9 y3 y4 => kF n9 a h9 y2 ((FwL.rf _ _ _ _ _).fail.tr y3 (Int.le_refl _) (Int.le_refl _)) y4 ha0)
  have hgood : sK b D a = 5 → a < 400 → am_X G mX13_tellLaw (d + 7) 5 [aR o, aI k, aU, aU] [] L (am_st h o 11 (a + 1)) Q := by
    intro y1 y2
    rw [pM_ok y1 y2, rb_l] at hp
    have b2 : am_st h o 11 (a + 1) o 41 = br := by rw [am_st_i (by decide)]; exact hb
    have f1 : FwL h (am_st h o 11 (a + 1)) o s c br := (FwL.rf h o s c br).st (by omega)
    refine x_aload_0 dX13_tellLaw_5 ?_
    refine x_getI_ dX13_tellLaw_6 fl1615_13 (by first | (exact MdL.k0 (by assumption)) | (assumption)) (fun r6 => ?_)
    rw [b2] at r6 ⊢
    refine x_istore_2 dX13_tellLaw_9 rfl ?_
    refine x_iconst dX13_tellLaw_10 ?_
    refine x_istore_3 dX13_tellLaw_11 rfl ?_
    exact mlaw_loop (c := c) hs hbr hk 4 hR.st0 (by rw [am_st_i (by decide)]; exact x1) am_st_s (by rw [am_st_i (by decide)]; exact x3) (by rw [am_st_i (by decide)]; exact x4) (by rw [am_st_i (by decide)]; exact x5) (hR.nx ha (by omega) (by omega) y2) ⟨by omega, by omega⟩ (by omega) (by omega) (by rw [b2]; omega) (fun j j0 j1 => by omega) (fun la a9 c9 m h9 e1 e2 e3 e4 e5 e6 e7 e8 => kS la a9 c9 (br + m + 1) h9 (by rw [hp]; exact e1) (by omega) e3 (f1.tr e4 (Int.le_refl _) (by omega)) e5 e6 ⟨by omega, by omega⟩ e8) (fun n9 tk h9 e1 e2 e3 e4 => kF n9 tk h9 (by rw [hp]; exact e1) (f1.tr e2 (Int.le_refl _) (by omega)) e3 e4)
  refine x_start okX13_tellLaw rfl rfl rfl rfl ?_
  refine x_aload_0 dX13_tellLaw_0 ?_
  refine x_iconst dX13_tellLaw_1 ?_
  refine x_callV1 dX13_tellLaw_2 rfl okX13_must q1863 q1865 qs66 (by first | assumption | (exact MdL.k0 (by assumption))) am_k13 rfl (C_X13_must hR x1 x2 ha ⟨by decide, by decide⟩ (fun y1 y2 => (x_k0 ?_)) (fun y1 => (x_k0 ?_)) (fun y1 y2 => (x_k0 ?_)))
  · exact hgood y1 y2
  · exact hbad 1 (Or.inl rfl) (by rw [hp, pM_1 y1, rb_r])
  · exact hbad 2 (Or.inr rfl) (by rw [hp, pM_2 y1 y2, rb_r])
end MLAW4
