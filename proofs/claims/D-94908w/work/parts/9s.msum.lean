/-! THE TWIN READS: a sum, step by step -/
set_option maxRecDepth 100000
section MUNIT
variable {G : am_G} {L : am_L} {h : am_H} {o s D N a c w : Int} {b : Int → Int} {d : Nat} {Q : am_O → am_L → am_H → Prop}
theorem emH_0 {k v j : Int} : emH h o c k v o j = if j = 47 then c + 1 else h o j := by
  unfold emH
  rw [am_st_at, am_st_o (by omega), am_st_o (by omega)]
  simp only [true_and]
theorem emH_o {k v y : Int} (h0 : y ≠ o) (h1 : y ≠ (o + 32)) (h2 : y ≠ (o + 33)) : emH h o c k v y = h y := by
  unfold emH
  rw [am_st_o h0, am_st_o h2, am_st_o h1]
theorem RdM.em {k v : Int} (r : RdM L h o b D N) : RdM L (emH h o c k v) o b D N := r.fr fun y z => emH_o (by omega) (by omega) (by omega)
theorem C_X13_unit0 (hL : MdL L o) (hf : 0 < h o 13) (kk : Q (.inl []) L h) : am_C G mX13_unit (d + 4) [aR o] L h Q := by
  refine x_start okX13_unit rfl rfl rfl rfl ?_
  refine x_aload_0 dX13_unit_0 ?_
  refine x_iconst dX13_unit_1 ?_
  refine x_callV1 dX13_unit_2 rfl okX13_is q1839 q1841 qs60 (by first | assumption | (exact MdL.k0 (by assumption))) am_k13 rfl (C_X13_is0 hL hf (x_k1 ?_))
  refine x_if_eq (tgt := 29) dX13_unit_5 rfl (by omega) (fun c5 => ?_) (fun c5 => ?_)
  · refine x_aload_0 dX13_unit_29 ?_
    refine x_getI_ dX13_unit_30 fl1587_13 (by first | (exact MdL.k0 (by assumption)) | (assumption)) (fun r30 => ?_)
    refine x_if_ne (tgt := 88) dX13_unit_33 rfl (by omega) (fun c33 => ?_) (fun c33 => ?_)
    · refine x_aload_0 dX13_unit_88 ?_
      refine x_iconst dX13_unit_89 ?_
      refine x_callV1 dX13_unit_90 rfl okX13_fail q1851 q1853 qs63 (by first | assumption | (exact MdL.k0 (by assumption))) am_k13 rfl (C_X13_fail0 hL hf (x_k0 ?_))
      refine x_ret dX13_unit_93 rfl ?_
      exact kk
    · exfalso; omega
  · exact absurd rfl c5
theorem C_X13_unit (hR : RdM L h o b D N) (hf : h o 13 = 0) (ht : h o 11 = a) (ha : inN N a) (hc : h o 47 = c) (hcc : 0 ≤ c ∧ c < 840)
    (k1 : sK b D a = 2 → a < 400 → Q (.inl []) L (am_st (emH h o c 0 (sV b D a)) o 11 (a + 1))) (k2 : sK b D a = 2 → 400 ≤ a → Q (.inl []) L (failH (emH h o c 0 (sV b D a)) o 2 (sP b D a)))
    (k3 : 31 ≤ sK b D a → a < 400 → Q (.inl []) L (am_st (emH h o c 1 (sK b D a - 31)) o 11 (a + 1))) (k4 : 31 ≤ sK b D a → 400 ≤ a → Q (.inl []) L (failH (emH h o c 1 (sK b D a - 31)) o 2 (sP b D a)))
    (k5 : sK b D a ≠ 2 → ¬ 31 ≤ sK b D a → Q (.inl []) L (failH h o 1 (sP b D a))) : am_C G mX13_unit (d + 4) [aR o] L h Q := by
  have hL := hR.ml
  have ha0 := ha.1
  have ha4 := ha.2
  obtain ⟨e3, e4, e5, e6⟩ := hR.tk ha
  have hrg : 0 ≤ sK b D a ∧ sK b D a ≤ 36 := tkK_rg b D _
  refine x_start okX13_unit rfl rfl rfl rfl ?_
  by_cases q2 : sK b D a = 2
  · have e5' : h (o + 5) a = sV b D a := e5 q2
    have f1 : ∀ v, emH h o c 0 v o 13 = 0 := fun v => by rw [emH_0, if_neg (by decide)]; exact hf
    have f2 : ∀ v, emH h o c 0 v o 11 = a := fun v => by rw [emH_0, if_neg (by decide)]; exact ht
    refine x_aload_0 dX13_unit_0 ?_
    refine x_iconst dX13_unit_1 ?_
    refine x_callV1 dX13_unit_2 rfl okX13_is q1839 q1841 qs60 (by first | assumption | (exact MdL.k0 (by assumption))) am_k13 rfl (C_X13_is hR hf ht ha ⟨by decide, by decide⟩ (x_k1 ?_))
    rw [if_pos q2]
    refine x_if_eq (tgt := 29) dX13_unit_5 rfl (by omega) (fun c5 => ?_) (fun c5 => ?_)
    · exact absurd c5 (by decide)
    · refine x_aload_0 dX13_unit_8 ?_
      refine x_iconst dX13_unit_9 ?_
      refine x_aload_0 dX13_unit_10 ?_
      refine x_getR dX13_unit_11 fl1581_13 rfl (by first | (exact MdL.k0 (by assumption)) | (assumption)) (by first | (exact MdL.v_tValue (by assumption)) | (assumption)) ?_
      refine x_aload_0 dX13_unit_14 ?_
      refine x_getI_ dX13_unit_15 fl1585_13 (by first | (exact MdL.k0 (by assumption)) | (assumption)) (fun r15 => ?_)
      rw [ht] at r15 ⊢
      refine x_iald_ dX13_unit_18 (by first | (exact MdL.k_tValue (by assumption)) | (assumption)) (by first | (exact MdL.x_tValue (by assumption) (by omega) (by omega)) | (omega)) (fun r18 => ?_)
      rw [e5'] at r18 ⊢
      refine x_callV2 dX13_unit_19 rfl okX13_emit q1899 q1901 qs75 (by first | assumption | (exact MdL.k0 (by assumption))) am_k13 rfl (C_X13_emit hL hc hcc ⟨by decide, by decide⟩ r18 (x_k0 ?_))
      refine x_aload_0 dX13_unit_22 ?_
      refine x_callV0 dX13_unit_23 rfl okX13_goesOn q1847 q1849 qs62 (by first | assumption | (exact MdL.k0 (by assumption))) am_k13 rfl (C_X13_goesOn hR.em (f1 _) (f2 _) ha (fun z => (x_k0 ?_)) (fun z => (x_k0 ?_)))
      · refine x_goto (tgt := 93) dX13_unit_26 rfl ?_
        refine x_ret dX13_unit_93 rfl ?_
        first
        | exact k1 q2 z
        | exact k2 q2 z
      · refine x_goto (tgt := 93) dX13_unit_26 rfl ?_
        refine x_ret dX13_unit_93 rfl ?_
        first
        | exact k1 q2 z
        | exact k2 q2 z
  · by_cases q3 : 31 ≤ sK b D a
    · have f1 : ∀ v, emH h o c 1 v o 13 = 0 := fun v => by rw [emH_0, if_neg (by decide)]; exact hf
      have f2 : ∀ v, emH h o c 1 v o 11 = a := fun v => by rw [emH_0, if_neg (by decide)]; exact ht
      refine x_aload_0 dX13_unit_0 ?_
      refine x_iconst dX13_unit_1 ?_
      refine x_callV1 dX13_unit_2 rfl okX13_is q1839 q1841 qs60 (by first | assumption | (exact MdL.k0 (by assumption))) am_k13 rfl (C_X13_is hR hf ht ha ⟨by decide, by decide⟩ (x_k1 ?_))
      rw [if_neg q2]
      refine x_if_eq (tgt := 29) dX13_unit_5 rfl (by omega) (fun c5 => ?_) (fun c5 => ?_)
      · refine x_aload_0 dX13_unit_29 ?_
        refine x_getI_ dX13_unit_30 fl1587_13 (by first | (exact MdL.k0 (by assumption)) | (assumption)) (fun r30 => ?_)
        rw [hf] at r30 ⊢
        refine x_if_ne (tgt := 88) dX13_unit_33 rfl (by omega) (fun c33 => ?_) (fun c33 => ?_)
        · exfalso; omega
        · refine x_aload_0 dX13_unit_36 ?_
          refine x_getR dX13_unit_37 fl1579_13 rfl (by first | (exact MdL.k0 (by assumption)) | (assumption)) (by first | (exact MdL.v_tKind (by assumption)) | (assumption)) ?_
          refine x_aload_0 dX13_unit_40 ?_
          refine x_getI_ dX13_unit_41 fl1585_13 (by first | (exact MdL.k0 (by assumption)) | (assumption)) (fun r41 => ?_)
          rw [ht] at r41 ⊢
          refine x_iald_ dX13_unit_44 (by first | (exact MdL.k_tKind (by assumption)) | (assumption)) (by first | (exact MdL.x_tKind (by assumption) (by omega) (by omega)) | (omega)) (fun r44 => ?_)
          rw [e3] at r44 ⊢
          refine x_bipush dX13_unit_45 rfl ?_
          refine x_icmp_lt (tgt := 88) dX13_unit_47 rfl (by omega) (by omega) (fun c47 => ?_) (fun c47 => ?_)
          · exfalso; omega
          · refine x_aload_0 dX13_unit_50 ?_
            refine x_getR dX13_unit_51 fl1579_13 rfl (by first | (exact MdL.k0 (by assumption)) | (assumption)) (by first | (exact MdL.v_tKind (by assumption)) | (assumption)) ?_
            refine x_aload_0 dX13_unit_54 ?_
            refine x_getI_ dX13_unit_55 fl1585_13 (by first | (exact MdL.k0 (by assumption)) | (assumption)) (fun r55 => ?_)
            rw [ht] at r55 ⊢
            refine x_iald_ dX13_unit_58 (by first | (exact MdL.k_tKind (by assumption)) | (assumption)) (by first | (exact MdL.x_tKind (by assumption) (by omega) (by omega)) | (omega)) (fun r58 => ?_)
            rw [e3] at r58 ⊢
            refine x_bipush dX13_unit_59 rfl ?_
            refine x_icmp_gt (tgt := 88) dX13_unit_61 rfl (by omega) (by omega) (fun c61 => ?_) (fun c61 => ?_)
            · exfalso; omega
            · refine x_aload_0 dX13_unit_64 ?_
              refine x_iconst dX13_unit_65 ?_
              refine x_aload_0 dX13_unit_66 ?_
              refine x_getR dX13_unit_67 fl1579_13 rfl (by first | (exact MdL.k0 (by assumption)) | (assumption)) (by first | (exact MdL.v_tKind (by assumption)) | (assumption)) ?_
              refine x_aload_0 dX13_unit_70 ?_
              refine x_getI_ dX13_unit_71 fl1585_13 (by first | (exact MdL.k0 (by assumption)) | (assumption)) (fun r71 => ?_)
              rw [ht] at r71 ⊢
              refine x_iald_ dX13_unit_74 (by first | (exact MdL.k_tKind (by assumption)) | (assumption)) (by first | (exact MdL.x_tKind (by assumption) (by omega) (by omega)) | (omega)) (fun r74 => ?_)
              rw [e3] at r74 ⊢
              refine x_bipush dX13_unit_75 rfl ?_
              refine x_isub dX13_unit_77 ?_
              refine x_callV2 dX13_unit_78 rfl okX13_emit q1899 q1901 qs75 (by first | assumption | (exact MdL.k0 (by assumption))) am_k13 rfl (C_X13_emit hL hc hcc ⟨by decide, by decide⟩ ⟨by omega, by omega⟩ (x_k0 ?_))
              refine x_aload_0 dX13_unit_81 ?_
              refine x_callV0 dX13_unit_82 rfl okX13_goesOn q1847 q1849 qs62 (by first | assumption | (exact MdL.k0 (by assumption))) am_k13 rfl (C_X13_goesOn hR.em (f1 _) (f2 _) ha (fun z => (x_k0 ?_)) (fun z => (x_k0 ?_)))
              · refine x_goto (tgt := 93) dX13_unit_85 rfl ?_
                refine x_ret dX13_unit_93 rfl ?_
                first
                | exact k3 q3 z
                | exact k4 q3 z
              · refine x_goto (tgt := 93) dX13_unit_85 rfl ?_
                refine x_ret dX13_unit_93 rfl ?_
                first
                | exact k3 q3 z
                | exact k4 q3 z
      · exact absurd rfl c5
    · skip
      refine x_aload_0 dX13_unit_0 ?_
      refine x_iconst dX13_unit_1 ?_
      refine x_callV1 dX13_unit_2 rfl okX13_is q1839 q1841 qs60 (by first | assumption | (exact MdL.k0 (by assumption))) am_k13 rfl (C_X13_is hR hf ht ha ⟨by decide, by decide⟩ (x_k1 ?_))
      rw [if_neg q2]
      refine x_if_eq (tgt := 29) dX13_unit_5 rfl (by omega) (fun c5 => ?_) (fun c5 => ?_)
      · refine x_aload_0 dX13_unit_29 ?_
        refine x_getI_ dX13_unit_30 fl1587_13 (by first | (exact MdL.k0 (by assumption)) | (assumption)) (fun r30 => ?_)
        rw [hf] at r30 ⊢
        refine x_if_ne (tgt := 88) dX13_unit_33 rfl (by omega) (fun c33 => ?_) (fun c33 => ?_)
        · refine x_aload_0 dX13_unit_88 ?_
          refine x_iconst dX13_unit_89 ?_
          refine x_callV1 dX13_unit_90 rfl okX13_fail q1851 q1853 qs63 (by first | assumption | (exact MdL.k0 (by assumption))) am_k13 rfl (C_X13_fail hR hf ht ha (by decide) (x_k0 ?_))
          refine x_ret dX13_unit_93 rfl ?_
          exact k5 q2 q3
        · refine x_aload_0 dX13_unit_36 ?_
          refine x_getR dX13_unit_37 fl1579_13 rfl (by first | (exact MdL.k0 (by assumption)) | (assumption)) (by first | (exact MdL.v_tKind (by assumption)) | (assumption)) ?_
          refine x_aload_0 dX13_unit_40 ?_
          refine x_getI_ dX13_unit_41 fl1585_13 (by first | (exact MdL.k0 (by assumption)) | (assumption)) (fun r41 => ?_)
          rw [ht] at r41 ⊢
          refine x_iald_ dX13_unit_44 (by first | (exact MdL.k_tKind (by assumption)) | (assumption)) (by first | (exact MdL.x_tKind (by assumption) (by omega) (by omega)) | (omega)) (fun r44 => ?_)
          rw [e3] at r44 ⊢
          refine x_bipush dX13_unit_45 rfl ?_
          refine x_icmp_lt (tgt := 88) dX13_unit_47 rfl (by omega) (by omega) (fun c47 => ?_) (fun c47 => ?_)
          · refine x_aload_0 dX13_unit_88 ?_
            refine x_iconst dX13_unit_89 ?_
            refine x_callV1 dX13_unit_90 rfl okX13_fail q1851 q1853 qs63 (by first | assumption | (exact MdL.k0 (by assumption))) am_k13 rfl (C_X13_fail hR hf ht ha (by decide) (x_k0 ?_))
            refine x_ret dX13_unit_93 rfl ?_
            exact k5 q2 q3
          · exfalso; omega
      · exact absurd rfl c5
end MUNIT
section MQ
variable (G : am_G) (d : Nat) (L : am_L) (Q : am_O → am_L → am_H → Prop) (h0 : am_H) (o s c0 base D N : Int) (b : Int → Int)
/-- in the midst of a sum -/
def XE (pc : Nat) (h : am_H) : Prop := am_X G mX13_expression (d + 5) pc [aR o, aI base, aI 1] [] L h Q
/-- a fault n at place p is told -/
def FT (h : am_H) (o n p : Int) : Prop := h o 13 = n ∧ h o 14 = p ∧ (0 ≤ h o 11 ∧ h o 11 ≤ 400) ∧ (n = 1 ∨ n = 2)
/-- what ends in a fault -/
def XFq (r : (Tau × Int) ⊕ (Int × Int)) : Prop := ∀ n tk h', r = .inr (n, tk) → FrE h0 h' o s c0 0 → FT h' o n (sP b D tk) → (0 ≤ tk ∧ tk ≤ N) → Q (.inl []) L h'
/-- what is at hand at token a -/
def ST (h : am_H) (a op c w : Int) : Prop := FrE h0 h o s c0 0 ∧ c0 ≤ c ∧ RdM L h o b D N ∧ EX h o a op c w ∧ inN N a ∧ (base ≤ op ∧ op ≤ 6) ∧ 0 ≤ w ∧ c + w ≤ 420 * s + a
/-- part level: what is read from code m on, sign w on -/
def PdP (h : am_H) (o m c w w' : Int) (t : Tau) : Prop := (w' = w ∧ SgE h o m c t) ∨ ∃ (k m2 : Int) (t1 t2 : Tau), w' = w + 1 ∧ h (o + 34) w = k ∧ (k = 10 ∨ k = 15) ∧ SgE h o m m2 t1 ∧ SgE h o m2 c t2 ∧ t = jnT (opK k) t1 t2
/-- sum level -/
def PdS (h : am_H) (o m c w w' : Int) (t : Tau) : Prop := PdP h o m c w w' t ∨ ∃ (k m2 : Int) (t1 t2 : Tau), h (o + 34) w = k ∧ (k = 8 ∨ k = 9) ∧ SgE h o m m2 t1 ∧ PdP h o m2 c (w + 1) w' t2 ∧ t = jnT (opK k) t1 t2
def UQ (f : Nat) : Prop := ∀ h a op c w t0, ST L h0 o s c0 base D N b h a op c w → w ≤ 3 * op + 2 → rkE 0 a < f →
  (∀ t a' c' h', pE (sK b D) (sV b D) f 0 op a t0 = .inl (t, a') → a < a' → FrE h h' o s c w → ST L h0 o s c0 base D N b h' a' op c' w → SgE h' o c c' t → XE G d L Q o base 96 h') → XFq L Q h0 o s c0 D N b (pE (sK b D) (sV b D) f 0 op a t0) → XE G d L Q o base 23 h
def PQ (f : Nat) : Prop := ∀ h a op c w t0, ST L h0 o s c0 base D N b h a op c w → w ≤ 3 * op + 1 → (w = 0 ∨ h (o + 34) (w - 1) = 6 ∨ h (o + 34) (w - 1) = 8 ∨ h (o + 34) (w - 1) = 9) → rkE 1 a < f →
  (∀ t a' c' w' h', pE (sK b D) (sV b D) f 1 op a t0 = .inl (t, a') → a < a' → (sK b D a' ≠ 10 ∧ sK b D a' ≠ 15) → FrE h h' o s c w → ST L h0 o s c0 base D N b h' a' op c' w' → PdP h' o c c' w w' t → XE G d L Q o base 96 h') → XFq L Q h0 o s c0 D N b (pE (sK b D) (sV b D) f 1 op a t0) → XE G d L Q o base 23 h
def RQ (f : Nat) : Prop := ∀ h a op m c w w' t, ST L h0 o s c0 base D N b h a op c w' → c0 ≤ m → 0 ≤ w → w ≤ 3 * op + 1 → (w = 0 ∨ h (o + 34) (w - 1) = 6 ∨ h (o + 34) (w - 1) = 8 ∨ h (o + 34) (w - 1) = 9) → rkE 2 a < f → PdP h o m c w w' t →
  (∀ t' a' c' w'' h', pE (sK b D) (sV b D) f 2 op a t = .inl (t', a') → a ≤ a' → (sK b D a' ≠ 10 ∧ sK b D a' ≠ 15) → FrE h h' o s m w → ST L h0 o s c0 base D N b h' a' op c' w'' → PdP h' o m c' w w'' t' → XE G d L Q o base 96 h') → XFq L Q h0 o s c0 D N b (pE (sK b D) (sV b D) f 2 op a t) → XE G d L Q o base 96 h
def SQ (f : Nat) : Prop := ∀ h a op c w t0, ST L h0 o s c0 base D N b h a op c w → w ≤ 3 * op → (w = 0 ∨ h (o + 34) (w - 1) = 6) → rkE 3 a < f →
  (∀ t a' c' w' h', pE (sK b D) (sV b D) f 3 op a t0 = .inl (t, a') → a < a' → (sK b D a' ≠ 8 ∧ sK b D a' ≠ 9 ∧ sK b D a' ≠ 10 ∧ sK b D a' ≠ 15) → FrE h h' o s c w → ST L h0 o s c0 base D N b h' a' op c' w' → PdS h' o c c' w w' t → XE G d L Q o base 96 h') → XFq L Q h0 o s c0 D N b (pE (sK b D) (sV b D) f 3 op a t0) → XE G d L Q o base 23 h
def TQ (f : Nat) : Prop := ∀ h a op m c w w' t, ST L h0 o s c0 base D N b h a op c w' → c0 ≤ m → 0 ≤ w → w ≤ 3 * op → (w = 0 ∨ h (o + 34) (w - 1) = 6) → (sK b D a ≠ 10 ∧ sK b D a ≠ 15) → rkE 4 a < f → PdS h o m c w w' t →
  (∀ t' a' c' w'' h', pE (sK b D) (sV b D) f 4 op a t = .inl (t', a') → a ≤ a' → (sK b D a' ≠ 8 ∧ sK b D a' ≠ 9 ∧ sK b D a' ≠ 10 ∧ sK b D a' ≠ 15) → FrE h h' o s m w → ST L h0 o s c0 base D N b h' a' op c' w'' → PdS h' o m c' w w'' t' → XE G d L Q o base 96 h') → XFq L Q h0 o s c0 D N b (pE (sK b D) (sV b D) f 4 op a t) → XE G d L Q o base 96 h
end MQ
section COM
variable {G : am_G} {L : am_L} {h h' h1 h2 : am_H} {o s D N a c w w' m : Int} {b : Int → Int} {d : Nat} {Q : am_O → am_L → am_H → Prop} {t : Tau}
/-- what comesOut writes -/
def CoF (h h' : am_H) (o s c : Int) : Prop := (∀ i, i < c ∨ 420 * s + 420 ≤ i → h' (o + 32) i = h (o + 32) i ∧ h' (o + 33) i = h (o + 33) i) ∧ (∀ y, y ≠ o → y ≠ (o + 32) → y ≠ (o + 33) → h' y = h y) ∧ ∀ j, j ≠ 47 → j ≠ 51 → h' o j = h o j
theorem CoF.rf (h : am_H) (o s c : Int) : CoF h h o s c := ⟨fun _ _ => ⟨rfl, rfl⟩, fun _ _ _ _ => rfl, fun _ _ _ => rfl⟩
theorem CoF.fe (r : CoF h h' o s c) : FrE h h' o s c w := ⟨r.1, fun i _ => by rw [r.2.1 (o + 34) (by omega) (by omega) (by omega)], fun y z0 z1 z2 _ => r.2.1 y z0 z1 z2, fun j _ _ _ _ z4 z5 => r.2.2 j z4 z5⟩
theorem CoF.tr {c' : Int} (r : CoF h h1 o s c) (q : CoF h1 h2 o s c') (hc : c ≤ c') : CoF h h2 o s c :=
  ⟨fun i z => ⟨((q.1 i (by omega)).1).trans (r.1 i z).1, ((q.1 i (by omega)).2).trans (r.1 i z).2⟩, fun y z0 z1 z2 => (q.2.1 y z0 z1 z2).trans (r.2.1 y z0 z1 z2), fun j z0 z1 => (q.2.2 j z0 z1).trans (r.2.2 j z0 z1)⟩
theorem CoF.pop {k v v2 : Int} (hc : c < 420 * s + 420) : CoF h (emH (am_st h o 51 v) o c k v2) o s c := by
  refine ⟨fun i z => ?_, fun y z0 z1 z2 => ?_, fun j z0 z1 => ?_⟩
  · unfold emH
    rw [am_st_o (by omega), am_st_o (by omega), am_st_i (by omega), am_st_o (by omega), am_st_o (by omega), am_st_i (by omega), am_st_o (by omega), am_st_o (by omega)]
    exact ⟨rfl, rfl⟩
  · rw [emH_o z0 z1 z2, am_st_o z0]
  · rw [emH_0, if_neg z0, am_st_i z1]
theorem SgE.cf {a b2 : Int} {ta : Tau} (r : SgE h o a b2 ta) (f : CoF h h' o s c) (hb : b2 ≤ c) : SgE h' o a b2 ta := r.fe (f.fe (w := 0)) hb
theorem SgE.ww {a b2 v : Int} {ta : Tau} (r : SgE h o a b2 ta) : SgE (am_st h o 51 v) o a b2 ta := by
  obtain ⟨n, r⟩ := r
  refine ⟨n, ?_⟩
  rw [am_st_o (by omega), am_st_o (by omega)]
  exact r
/-- what waits at part level comes out -/
theorem co_P {g : Int} (hL : MdL L o) (hg : g = 0 ∨ g = 1) (hw : h o 51 = w') (hc : h o 47 = c) (hw0 : 0 ≤ w ∧ w' ≤ 64) (hcc : 0 ≤ c ∧ 0 ≤ s ∧ s ≤ 1 ∧ c + w' ≤ 420 * s + 420) (hP : PdP h o m c w w' t)
    (kk : ∀ h' c', c' + w = c + w' → c ≤ c' → CoF h h' o s c → h' o 47 = c' → h' o 51 = w → SgE h' o m c' t → am_X G mX13_comesOut (d + 2) 0 [aR o, aI g, aU] [] L h' Q) : am_X G mX13_comesOut (d + 2) 0 [aR o, aI g, aU] [] L h Q := by
  rcases hP with ⟨e, q⟩ | ⟨k, m2, t1, t2, e, q1, q2, q3, q4, q5⟩
  · subst e
    exact kk h c (by omega) (Int.le_refl _) (CoF.rf _ _ _ _) hc hw q
  · subst q5
    refine co_pop hL hg hw (by omega) (by rw [show w' - 1 = w by omega]; exact q1) (by omega) (fun _ => q2) hc (by omega) ?_
    refine kk _ (c + 1) (by omega) (by omega) (CoF.pop (by omega)) (by rw [emH_0, if_pos rfl]) (by rw [emH_0, if_neg (by decide), am_st_s]; omega) (SgE.join q3.ww q4.ww (by omega))
/-- all that waits at sum level comes out -/
theorem co_S (hL : MdL L o) (hw : h o 51 = w') (hc : h o 47 = c) (hw0 : 0 ≤ w ∧ w' ≤ 64) (htop : w = 0 ∨ h (o + 34) (w - 1) = 6) (hcc : 0 ≤ c ∧ 0 ≤ s ∧ s ≤ 1 ∧ c + w' ≤ 420 * s + 420) (hP : PdS h o m c w w' t)
    (kk : ∀ h' c', c' + w = c + w' → c ≤ c' → CoF h h' o s c → h' o 47 = c' → h' o 51 = w → SgE h' o m c' t → Q (.inl []) L h') : am_C G mX13_comesOut (d + 2) [aR o, aI 0] L h Q := by
  refine x_start okX13_comesOut rfl rfl rfl rfl ?_
  rcases hP with hP | ⟨k, m2, t1, t2, q1, q2, q3, q4, q5⟩
  · refine co_P hL (Or.inl rfl) hw hc hw0 hcc hP (fun h1 c1 e1 e2 f1 f2 f3 f4 => ?_)
    refine co_stop (w := w) hL (Or.inl rfl) f3 (by omega) ?_ (kk h1 c1 e1 e2 f1 f2 f3 f4)
    rcases htop with z | z
    · exact Or.inl z
    · exact Or.inr (Or.inl (by rw [f1.2.1 (o + 34) (by omega) (by omega) (by omega)]; exact z))
  · subst q5
    have hww : w + 1 ≤ w' := by
      rcases q4 with z | ⟨_, _, _, _, z, _⟩ <;> omega
    have l1 := q3.lt
    have hm2 : m2 < c := by
      rcases q4 with z | ⟨k9, m9, t8, t9, z, z1, z2, z3, z4, z5⟩
      · exact z.2.lt
      · have := z3.lt
        have := z4.lt
        omega
    refine co_P hL (Or.inl rfl) hw hc ⟨by omega, hw0.2⟩ hcc q4 (fun h1 c1 e1 e2 f1 f2 f3 f4 => ?_)
    have q1' : h1 (o + 34) w = k := by rw [f1.2.1 (o + 34) (by omega) (by omega) (by omega)]; exact q1
    refine co_pop (k := k) hL (Or.inl rfl) f3 (by omega) (by rw [show w + 1 - 1 = w by omega]; exact q1') (by omega) (fun z => absurd z (by decide)) f2 (by omega) ?_
    have f5 : CoF h1 (emH (am_st h1 o 51 (w + 1 - 1)) o c1 (opC k) 0) o s c1 := CoF.pop (by omega)
    refine co_stop (w := w) hL (Or.inl rfl) (by rw [emH_0, if_neg (by decide), am_st_s]; omega) (by omega) ?_ (kk _ (c1 + 1) (by omega) (by omega) (f1.tr f5 e2) (by rw [emH_0, if_pos rfl]) (by rw [emH_0, if_neg (by decide), am_st_s]; omega) (SgE.join (q3.cf f1 (by omega)).ww f4.ww (by omega)))
    rcases htop with z | z
    · exact Or.inl z
    · exact Or.inr (Or.inl (by rw [f5.2.1 (o + 34) (by omega) (by omega) (by omega), f1.2.1 (o + 34) (by omega) (by omega) (by omega)]; exact z))
/-- whatever waits comes out, as far as it goes -/
theorem coAny (hL : MdL L o) (hs : 0 ≤ s ∧ s ≤ 1) (k : ∀ h', CoF h h' o s c → Q (.inl []) L h') : ∀ (n : Nat) (w c' : Int) (h1 : am_H), w ≤ n → CoF h h1 o s c → h1 o 51 = w → h1 o 47 = c' → 0 ≤ w → w ≤ 64 → 0 ≤ c' → c ≤ c' → c' + w ≤ 420 * s + 420 → am_X G mX13_comesOut (d + 2) 0 [aR o, aI 0, aU] [] L h1 Q := by
  intro n
  induction n with
  | zero =>
    intro w c' h1 z1 z2 z3 z4 z5 z6 z7 z8 z9
    refine co_stop hL (Or.inl rfl) z3 (by omega) (Or.inl (by omega)) (k h1 z2)
  | succ n ih =>
    intro w c' h1 z1 z2 z3 z4 z5 z6 z7 z8 z9
    rcases Int.lt_or_le 0 w with q | q
    · by_cases q6 : h1 (o + 34) (w - 1) = 6
      · exact co_stop hL (Or.inl rfl) z3 (by omega) (Or.inr (Or.inl q6)) (k h1 z2)
      · have hc' : ∀ v, am_st h1 o 51 v o 47 = c' := fun v => by rw [am_st_i (by decide)]; exact z4
        have hst : ∀ v : Int, 2 ≤ v → v ≤ 5 → ∀ u : AV, am_X G mX13_comesOut (d + 2) 84 [aR o, aI 0, u] [aI v, aR o] L (am_st h1 o 51 (w - 1)) Q := by
          intro v y0 y1 u
          refine x_iconst dX13_comesOut_84 ?_
          refine x_callV2 dX13_comesOut_85 rfl okX13_emit q1899 q1901 qs75 (by first | assumption | (exact MdL.k0 (by assumption))) am_k13 rfl (C_X13_emit hL (hc' _) (by omega) ⟨by omega, by omega⟩ ⟨by decide, by decide⟩ (x_k0 ?_))
          refine x_goto (tgt := 0) dX13_comesOut_88 rfl ?_
          exact x_wk (by simp [wkL, aU]) <| ih (w - 1) (c' + 1) _ (by omega) (z2.tr (CoF.pop (by omega)) z8) (by rw [emH_0, if_neg (by decide), am_st_s]) (by rw [emH_0, if_pos rfl]) (by omega) (by omega) (by omega) (by omega) (by omega)
        refine x_aload_0 dX13_comesOut_0 ?_
        refine x_getI_ dX13_comesOut_1 fl1625_13 (by first | (exact MdL.k0 (by assumption)) | (assumption)) (fun r1 => ?_)
        rw [z3] at r1 ⊢
        refine x_if_le (tgt := 91) dX13_comesOut_4 rfl (by omega) (fun c4 => ?_) (fun c4 => ?_)
        · exfalso; omega
        · refine x_aload_0 dX13_comesOut_7 ?_
          refine x_getR dX13_comesOut_8 fl1624_13 rfl (by first | (exact MdL.k0 (by assumption)) | (assumption)) (by first | (exact MdL.v_waits (by assumption)) | (assumption)) ?_
          refine x_aload_0 dX13_comesOut_11 ?_
          refine x_getI_ dX13_comesOut_12 fl1625_13 (by first | (exact MdL.k0 (by assumption)) | (assumption)) (fun r12 => ?_)
          rw [z3] at r12 ⊢
          refine x_iconst dX13_comesOut_15 ?_
          refine x_isub dX13_comesOut_16 ?_
          refine x_iald_ dX13_comesOut_17 (by first | (exact MdL.k_waits (by assumption)) | (assumption)) (by first | (exact MdL.x_waits (by assumption) (by omega) (by omega)) | (omega)) (fun r17 => ?_)
          refine x_istore_2 dX13_comesOut_18 rfl ?_
          refine x_iload_2 dX13_comesOut_19 ?_
          refine x_bipush dX13_comesOut_20 rfl ?_
          refine x_icmp_eq (tgt := 41) dX13_comesOut_22 rfl (by omega) (by omega) (fun c22 => ?_) (fun c22 => ?_)
          · exfalso; omega
          · refine x_iload_1 dX13_comesOut_25 ?_
            refine x_if_eq (tgt := 42) dX13_comesOut_26 rfl (by omega) (fun c26 => ?_) (fun c26 => ?_)
            · refine x_aload_0 dX13_comesOut_42 ?_
              refine x_dup dX13_comesOut_43 rfl ?_
              refine x_getI_ dX13_comesOut_44 fl1625_13 (by first | (exact MdL.k0 (by assumption)) | (assumption)) (fun r44 => ?_)
              rw [z3] at r44 ⊢
              refine x_iconst dX13_comesOut_47 ?_
              refine x_isub dX13_comesOut_48 ?_
              refine x_putI_ dX13_comesOut_49 fl1625_13 (by first | (exact MdL.k0 (by assumption)) | (assumption)) (by omega) ?_
              refine x_aload_0 dX13_comesOut_52 ?_
              refine x_iload_2 dX13_comesOut_53 ?_
              refine x_bipush dX13_comesOut_54 rfl ?_
              refine x_icmp_ne (tgt := 63) dX13_comesOut_56 rfl (by omega) (by omega) (fun c56 => ?_) (fun c56 => ?_)
              · refine x_iload_2 dX13_comesOut_63 ?_
                refine x_bipush dX13_comesOut_64 rfl ?_
                refine x_icmp_ne (tgt := 73) dX13_comesOut_66 rfl (by omega) (by omega) (fun c66 => ?_) (fun c66 => ?_)
                · refine x_iload_2 dX13_comesOut_73 ?_
                  refine x_bipush dX13_comesOut_74 rfl ?_
                  refine x_icmp_ne (tgt := 83) dX13_comesOut_76 rfl (by omega) (by omega) (fun c76 => ?_) (fun c76 => ?_)
                  · refine x_iconst dX13_comesOut_83 ?_
                    exact hst _ (by decide) (by decide) _
                  · refine x_iconst dX13_comesOut_79 ?_
                    refine x_goto (tgt := 84) dX13_comesOut_80 rfl ?_
                    exact hst _ (by decide) (by decide) _
                · refine x_iconst dX13_comesOut_69 ?_
                  refine x_goto (tgt := 84) dX13_comesOut_70 rfl ?_
                  exact hst _ (by decide) (by decide) _
              · refine x_iconst dX13_comesOut_59 ?_
                refine x_goto (tgt := 84) dX13_comesOut_60 rfl ?_
                exact hst _ (by decide) (by decide) _
            · refine x_iload_2 dX13_comesOut_29 ?_
              refine x_bipush dX13_comesOut_30 rfl ?_
              refine x_icmp_eq (tgt := 41) dX13_comesOut_32 rfl (by omega) (by omega) (fun c32 => ?_) (fun c32 => ?_)
              · exfalso; omega
              · refine x_iload_2 dX13_comesOut_35 ?_
                refine x_bipush dX13_comesOut_36 rfl ?_
                refine x_icmp_ne (tgt := 42) dX13_comesOut_38 rfl (by omega) (by omega) (fun c38 => ?_) (fun c38 => ?_)
                · refine x_aload_0 dX13_comesOut_42 ?_
                  refine x_dup dX13_comesOut_43 rfl ?_
                  refine x_getI_ dX13_comesOut_44 fl1625_13 (by first | (exact MdL.k0 (by assumption)) | (assumption)) (fun r44 => ?_)
                  rw [z3] at r44 ⊢
                  refine x_iconst dX13_comesOut_47 ?_
                  refine x_isub dX13_comesOut_48 ?_
                  refine x_putI_ dX13_comesOut_49 fl1625_13 (by first | (exact MdL.k0 (by assumption)) | (assumption)) (by omega) ?_
                  refine x_aload_0 dX13_comesOut_52 ?_
                  refine x_iload_2 dX13_comesOut_53 ?_
                  refine x_bipush dX13_comesOut_54 rfl ?_
                  refine x_icmp_ne (tgt := 63) dX13_comesOut_56 rfl (by omega) (by omega) (fun c56 => ?_) (fun c56 => ?_)
                  · refine x_iload_2 dX13_comesOut_63 ?_
                    refine x_bipush dX13_comesOut_64 rfl ?_
                    refine x_icmp_ne (tgt := 73) dX13_comesOut_66 rfl (by omega) (by omega) (fun c66 => ?_) (fun c66 => ?_)
                    · refine x_iload_2 dX13_comesOut_73 ?_
                      refine x_bipush dX13_comesOut_74 rfl ?_
                      refine x_icmp_ne (tgt := 83) dX13_comesOut_76 rfl (by omega) (by omega) (fun c76 => ?_) (fun c76 => ?_)
                      · refine x_iconst dX13_comesOut_83 ?_
                        exact hst _ (by decide) (by decide) _
                      · refine x_iconst dX13_comesOut_79 ?_
                        refine x_goto (tgt := 84) dX13_comesOut_80 rfl ?_
                        exact hst _ (by decide) (by decide) _
                    · refine x_iconst dX13_comesOut_69 ?_
                      refine x_goto (tgt := 84) dX13_comesOut_70 rfl ?_
                      exact hst _ (by decide) (by decide) _
                  · refine x_iconst dX13_comesOut_59 ?_
                    refine x_goto (tgt := 84) dX13_comesOut_60 rfl ?_
                    exact hst _ (by decide) (by decide) _
                · exfalso; omega
    · exact co_stop hL (Or.inl rfl) z3 (by omega) (Or.inl (by omega)) (k h1 z2)
end COM
