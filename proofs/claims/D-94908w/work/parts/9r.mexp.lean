/-! THE TWIN READS: sums, as a yard of signs that wait -/
set_option maxRecDepth 100000
section MEXP
variable {G : am_G} {L L' L2 : am_L} {h h' h1 h2 : am_H} {o s D N a c w u : Int} {b : Int → Int} {d : Nat} {Q : am_O → am_L → am_H → Prop}
/-- what the reading of a sum may write, from code c and from sign w on -/
def FrE (h h' : am_H) (o s c w : Int) : Prop := (∀ i, i < c ∨ 420 * s + 420 ≤ i → h' (o + 32) i = h (o + 32) i ∧ h' (o + 33) i = h (o + 33) i) ∧ (∀ i, i < w → h' (o + 34) i = h (o + 34) i) ∧ (∀ y, y ≠ o → y ≠ (o + 32) → y ≠ (o + 33) → y ≠ (o + 34) → h' y = h y) ∧ ∀ j, j ≠ 11 → j ≠ 12 → j ≠ 13 → j ≠ 14 → j ≠ 47 → j ≠ 51 → h' o j = h o j
theorem FrE.rf (h : am_H) (o s c w : Int) : FrE h h o s c w := ⟨fun _ _ => ⟨rfl, rfl⟩, fun _ _ => rfl, fun _ _ _ _ _ => rfl, fun _ _ _ _ _ _ _ => rfl⟩
theorem FrE.tr {c' w' : Int} (r : FrE h h1 o s c w) (q : FrE h1 h2 o s c' w') (hc : c ≤ c') (hw : w ≤ w') : FrE h h2 o s c w :=
  ⟨fun i z => ⟨((q.1 i (by omega)).1).trans (r.1 i z).1, ((q.1 i (by omega)).2).trans (r.1 i z).2⟩, fun i z => (q.2.1 i (by omega)).trans (r.2.1 i z), fun y z0 z1 z2 z3 => (q.2.2.1 y z0 z1 z2 z3).trans (r.2.2.1 y z0 z1 z2 z3), fun j z0 z1 z2 z3 z4 z5 => (q.2.2.2 j z0 z1 z2 z3 z4 z5).trans (r.2.2.2 j z0 z1 z2 z3 z4 z5)⟩
theorem FrE.st {j v : Int} (r : FrE h h1 o s c w) (hj : j = 11 ∨ j = 12 ∨ j = 13 ∨ j = 14 ∨ j = 47 ∨ j = 51) : FrE h (am_st h1 o j v) o s c w := by
  obtain ⟨r1, r2, r3, r4⟩ := r
  refine ⟨fun i z => ?_, fun i z => ?_, fun y z0 z1 z2 z3 => ?_, fun i z0 z1 z2 z3 z4 z5 => ?_⟩
  · rw [am_st_o (by omega), am_st_o (by omega)]; exact r1 i z
  · rw [am_st_o (by omega)]; exact r2 i z
  · rw [am_st_o z0]; exact r3 y z0 z1 z2 z3
  · rw [am_st_i (by omega)]; exact r4 i z0 z1 z2 z3 z4 z5
theorem FrE.em {k v c' : Int} (r : FrE h h1 o s c w) (hc : c ≤ c' ∧ c' < 420 * s + 420) : FrE h (emH h1 o c' k v) o s c w := by
  obtain ⟨r1, r2, r3, r4⟩ := r
  unfold emH
  refine ⟨fun i z => ?_, fun i z => ?_, fun y z0 z1 z2 z3 => ?_, fun i z0 z1 z2 z3 z4 z5 => ?_⟩
  · rw [am_st_o (by omega), am_st_o (by omega), am_st_i (by omega), am_st_o (by omega), am_st_i (by omega), am_st_o (by omega)]; exact r1 i z
  · rw [am_st_o (by omega), am_st_o (by omega), am_st_o (by omega)]; exact r2 i z
  · rw [am_st_o z0, am_st_o z2, am_st_o z1]; exact r3 y z0 z1 z2 z3
  · rw [am_st_i (by omega), am_st_o (by omega), am_st_o (by omega)]; exact r4 i z0 z1 z2 z3 z4 z5
theorem FrE.ws {v w' : Int} (r : FrE h h1 o s c w) (hw : w ≤ w') : FrE h (am_st h1 (o + 34) w' v) o s c w := by
  obtain ⟨r1, r2, r3, r4⟩ := r
  refine ⟨fun i z => ?_, fun i z => ?_, fun y z0 z1 z2 z3 => ?_, fun i z0 z1 z2 z3 z4 z5 => ?_⟩
  · rw [am_st_o (by omega), am_st_o (by omega)]; exact r1 i z
  · rw [am_st_i (by omega)]; exact r2 i z
  · rw [am_st_o z3]; exact r3 y z0 z1 z2 z3
  · rw [am_st_o (by omega)]; exact r4 i z0 z1 z2 z3 z4 z5
theorem RdM.fe (r : RdM L h o b D N) (f : FrE h h' o s c w) : RdM L h' o b D N := r.fr fun y z => f.2.2.1 y (by omega) (by omega) (by omega) (by omega)
/-- at token a, op open, c codes, w signs that wait -/
def EX (h : am_H) (o a op c w : Int) : Prop := h o 13 = 0 ∧ h o 11 = a ∧ h o 12 = op ∧ h o 47 = c ∧ h o 51 = w
/-- the codes from a to b, on the side s -/
def SgE (h : am_H) (o a b : Int) (ta : Tau) : Prop := ∃ n, Seg (h (o + 32)) (h (o + 33)) n a b ta
theorem SgE.lt {a b : Int} {ta : Tau} (r : SgE h o a b ta) : a < b := by
  obtain ⟨n, r⟩ := r
  exact Seg.lt n r
theorem SgE.fe {a b2 : Int} {ta : Tau} (r : SgE h o a b2 ta) (f : FrE h h' o s c w) (hb : b2 ≤ c) : SgE h' o a b2 ta := by
  obtain ⟨n, r⟩ := r
  exact ⟨n, Seg.cg a b2 (fun i z0 z1 => f.1 i (Or.inl (by omega))) n r (Int.le_refl _) (Int.le_refl _)⟩
/-- the code of a sign -/
def opC (k : Int) : Int := if k = 8 then 2 else if k = 9 then 3 else if k = 10 then 4 else 5
theorem opC_I (k : Int) (hk : k = 8 ∨ k = 9 ∨ k = 10 ∨ k = 15) : opI (opC k) = opK k ∧ 2 ≤ opC k ∧ opC k ≤ 5 := by
  rcases hk with rfl | rfl | rfl | rfl <;> decide
theorem SgE.join {a m c k v : Int} {t1 t2 : Tau} (r1 : SgE h o a m t1) (r2 : SgE h o m c t2) (hk : k = 8 ∨ k = 9 ∨ k = 10 ∨ k = 15) : SgE (emH h o c (opC k) v) o a (c + 1) (jnT (opK k) t1 t2) := by
  obtain ⟨n1, r1⟩ := r1
  obtain ⟨n2, r2⟩ := r2
  have hlt1 := Seg.lt n1 r1
  have hlt2 := Seg.lt n2 r2
  obtain ⟨e1, e2, e3⟩ := opC_I k hk
  have ec : ∀ i, i ≠ c → emH h o c (opC k) v (o + 32) i = h (o + 32) i ∧ emH h o c (opC k) v (o + 33) i = h (o + 33) i := fun i z => by
    unfold emH
    rw [am_st_o (by omega), am_st_o (by omega), am_st_i z, am_st_o (by omega), am_st_i z, am_st_o (by omega)]
    exact ⟨rfl, rfl⟩
  have ek : emH h o c (opC k) v (o + 32) c = opC k := by
    unfold emH
    rw [am_st_o (by omega), am_st_o (by omega), am_st_s]
  refine ⟨max n1 n2 + 1, Or.inr (Or.inr ⟨m, c, t1, t2, ?_, ?_, by rw [ek]; omega, rfl, by rw [ek, e1]⟩)⟩
  · exact Seg.cg a m (fun i z0 z1 => ec i (by omega)) _ (Seg.le (by omega) r1) (Int.le_refl _) (Int.le_refl _)
  · exact Seg.cg m c (fun i z0 z1 => ec i (by omega)) _ (Seg.le (by omega) r2) (Int.le_refl _) (Int.le_refl _)
/-- nothing more comes out -/
theorem co_stop {g : Int} (hL : MdL L o) (hg : g = 0 ∨ g = 1) (hw : h o 51 = w) (hw0 : 0 ≤ w ∧ w ≤ 64) (htop : w = 0 ∨ h (o + 34) (w - 1) = 6 ∨ (g = 1 ∧ (h (o + 34) (w - 1) = 8 ∨ h (o + 34) (w - 1) = 9))) (kk : Q (.inl []) L h) : am_X G mX13_comesOut (d + 2) 0 [aR o, aI g, aU] [] L h Q := by
  refine x_aload_0 dX13_comesOut_0 ?_
  refine x_getI_ dX13_comesOut_1 fl1625_13 (by first | (exact MdL.k0 (by assumption)) | (assumption)) (fun r1 => ?_)
  rw [hw] at r1 ⊢
  refine x_if_le (tgt := 91) dX13_comesOut_4 rfl (by omega) (fun c4 => ?_) (fun c4 => ?_)
  · refine x_ret dX13_comesOut_91 rfl ?_
    exact kk
  · refine x_aload_0 dX13_comesOut_7 ?_
    refine x_getR dX13_comesOut_8 fl1624_13 rfl (by first | (exact MdL.k0 (by assumption)) | (assumption)) (by first | (exact MdL.v_waits (by assumption)) | (assumption)) ?_
    refine x_aload_0 dX13_comesOut_11 ?_
    refine x_getI_ dX13_comesOut_12 fl1625_13 (by first | (exact MdL.k0 (by assumption)) | (assumption)) (fun r12 => ?_)
    rw [hw] at r12 ⊢
    refine x_iconst dX13_comesOut_15 ?_
    refine x_isub dX13_comesOut_16 ?_
    refine x_iald_ dX13_comesOut_17 (by first | (exact MdL.k_waits (by assumption)) | (assumption)) (by first | (exact MdL.x_waits (by assumption) (by omega) (by omega)) | (omega)) (fun r17 => ?_)
    refine x_istore_2 dX13_comesOut_18 rfl ?_
    refine x_iload_2 dX13_comesOut_19 ?_
    refine x_bipush dX13_comesOut_20 rfl ?_
    refine x_icmp_eq (tgt := 41) dX13_comesOut_22 rfl (by omega) (by omega) (fun c22 => ?_) (fun c22 => ?_)
    · refine x_ret dX13_comesOut_41 rfl ?_
      exact kk
    · refine x_iload_1 dX13_comesOut_25 ?_
      refine x_if_eq (tgt := 42) dX13_comesOut_26 rfl (by omega) (fun c26 => ?_) (fun c26 => ?_)
      · exfalso; omega
      · refine x_iload_2 dX13_comesOut_29 ?_
        refine x_bipush dX13_comesOut_30 rfl ?_
        refine x_icmp_eq (tgt := 41) dX13_comesOut_32 rfl (by omega) (by omega) (fun c32 => ?_) (fun c32 => ?_)
        · refine x_ret dX13_comesOut_41 rfl ?_
          exact kk
        · refine x_iload_2 dX13_comesOut_35 ?_
          refine x_bipush dX13_comesOut_36 rfl ?_
          refine x_icmp_ne (tgt := 42) dX13_comesOut_38 rfl (by omega) (by omega) (fun c38 => ?_) (fun c38 => ?_)
          · exfalso; omega
          · refine x_ret dX13_comesOut_41 rfl ?_
            exact kk
/-- the top sign k comes out -/
theorem co_pop {g k : Int} (hL : MdL L o) (hg : g = 0 ∨ g = 1) (hw : h o 51 = w) (hw0 : 0 < w ∧ w ≤ 64) (hk : h (o + 34) (w - 1) = k) (hkk : k = 8 ∨ k = 9 ∨ k = 10 ∨ k = 15) (hst : g = 1 → k = 10 ∨ k = 15) (hc : h o 47 = c) (hcc : 0 ≤ c ∧ c < 840) (kk : am_X G mX13_comesOut (d + 2) 0 [aR o, aI g, aU] [] L (emH (am_st h o 51 (w - 1)) o c (opC k) 0) Q) : am_X G mX13_comesOut (d + 2) 0 [aR o, aI g, aU] [] L h Q := by
  have hc' : am_st h o 51 (w - 1) o 47 = c := by rw [am_st_i (by decide)]; exact hc
  have h84 : ∀ z : Int, z = opC k → am_X G mX13_comesOut (d + 2) 84 [aR o, aI g, aI k] [aI z, aR o] L (am_st h o 51 (w - 1)) Q := by
    intro z hz
    subst hz
    obtain ⟨-, e2, e3⟩ := opC_I k hkk
    refine x_iconst dX13_comesOut_84 ?_
    refine x_callV2 dX13_comesOut_85 rfl okX13_emit q1899 q1901 qs75 (by first | assumption | (exact MdL.k0 (by assumption))) am_k13 rfl (C_X13_emit hL hc' hcc ⟨by omega, by omega⟩ ⟨by decide, by decide⟩ (x_k0 ?_))
    refine x_goto (tgt := 0) dX13_comesOut_88 rfl ?_
    exact x_wk (by simp [wkL, aU]) kk
  refine x_aload_0 dX13_comesOut_0 ?_
  refine x_getI_ dX13_comesOut_1 fl1625_13 (by first | (exact MdL.k0 (by assumption)) | (assumption)) (fun r1 => ?_)
  rw [hw] at r1 ⊢
  refine x_if_le (tgt := 91) dX13_comesOut_4 rfl (by omega) (fun c4 => ?_) (fun c4 => ?_)
  · exfalso; omega
  · refine x_aload_0 dX13_comesOut_7 ?_
    refine x_getR dX13_comesOut_8 fl1624_13 rfl (by first | (exact MdL.k0 (by assumption)) | (assumption)) (by first | (exact MdL.v_waits (by assumption)) | (assumption)) ?_
    refine x_aload_0 dX13_comesOut_11 ?_
    refine x_getI_ dX13_comesOut_12 fl1625_13 (by first | (exact MdL.k0 (by assumption)) | (assumption)) (fun r12 => ?_)
    rw [hw] at r12 ⊢
    refine x_iconst dX13_comesOut_15 ?_
    refine x_isub dX13_comesOut_16 ?_
    refine x_iald_ dX13_comesOut_17 (by first | (exact MdL.k_waits (by assumption)) | (assumption)) (by first | (exact MdL.x_waits (by assumption) (by omega) (by omega)) | (omega)) (fun r17 => ?_)
    rw [hk] at r17 ⊢
    refine x_istore_2 dX13_comesOut_18 rfl ?_
    refine x_iload_2 dX13_comesOut_19 ?_
    refine x_bipush dX13_comesOut_20 rfl ?_
    refine x_icmp_eq (tgt := 41) dX13_comesOut_22 rfl (by omega) (by omega) (fun c22 => ?_) (fun c22 => ?_)
    · exfalso; omega
    · refine x_iload_1 dX13_comesOut_25 ?_
      refine x_if_eq (tgt := 42) dX13_comesOut_26 rfl (by omega) (fun c26 => ?_) (fun c26 => ?_)
      · refine x_aload_0 dX13_comesOut_42 ?_
        refine x_dup dX13_comesOut_43 rfl ?_
        refine x_getI_ dX13_comesOut_44 fl1625_13 (by first | (exact MdL.k0 (by assumption)) | (assumption)) (fun r44 => ?_)
        rw [hw] at r44 ⊢
        refine x_iconst dX13_comesOut_47 ?_
        refine x_isub dX13_comesOut_48 ?_
        refine x_putI_ dX13_comesOut_49 fl1625_13 (by first | (exact MdL.k0 (by assumption)) | (assumption)) (by omega) ?_
        refine x_aload_0 dX13_comesOut_52 ?_
        refine x_iload_2 dX13_comesOut_53 ?_
        refine x_bipush dX13_comesOut_54 rfl ?_
        refine x_icmp_ne (tgt := 63) dX13_comesOut_56 rfl (by omega) (by omega) (fun c56 => ?_) (fun c56 => ?_)
        · refine x_iload_2 dX13_comesOut_63 ?_
          refine x_bipush dX13_comesOut_64 rfl ?_
          refine x_icmp_ne (tgt := 73) dX13_comesOut_66 rfl (by omega) (by omega) (fun c66 => ?_) (fun c66 => ?_)
          · refine x_iload_2 dX13_comesOut_73 ?_
            refine x_bipush dX13_comesOut_74 rfl ?_
            refine x_icmp_ne (tgt := 83) dX13_comesOut_76 rfl (by omega) (by omega) (fun c76 => ?_) (fun c76 => ?_)
            · refine x_iconst dX13_comesOut_83 ?_
              refine h84 _ ?_
              unfold opC
              (repeat' split) <;> omega
            · refine x_iconst dX13_comesOut_79 ?_
              refine x_goto (tgt := 84) dX13_comesOut_80 rfl ?_
              refine h84 _ ?_
              unfold opC
              (repeat' split) <;> omega
          · refine x_iconst dX13_comesOut_69 ?_
            refine x_goto (tgt := 84) dX13_comesOut_70 rfl ?_
            refine h84 _ ?_
            unfold opC
            (repeat' split) <;> omega
        · refine x_iconst dX13_comesOut_59 ?_
          refine x_goto (tgt := 84) dX13_comesOut_60 rfl ?_
          refine h84 _ ?_
          unfold opC
          (repeat' split) <;> omega
      · refine x_iload_2 dX13_comesOut_29 ?_
        refine x_bipush dX13_comesOut_30 rfl ?_
        refine x_icmp_eq (tgt := 41) dX13_comesOut_32 rfl (by omega) (by omega) (fun c32 => ?_) (fun c32 => ?_)
        · exfalso; omega
        · refine x_iload_2 dX13_comesOut_35 ?_
          refine x_bipush dX13_comesOut_36 rfl ?_
          refine x_icmp_ne (tgt := 42) dX13_comesOut_38 rfl (by omega) (by omega) (fun c38 => ?_) (fun c38 => ?_)
          · refine x_aload_0 dX13_comesOut_42 ?_
            refine x_dup dX13_comesOut_43 rfl ?_
            refine x_getI_ dX13_comesOut_44 fl1625_13 (by first | (exact MdL.k0 (by assumption)) | (assumption)) (fun r44 => ?_)
            rw [hw] at r44 ⊢
            refine x_iconst dX13_comesOut_47 ?_
            refine x_isub dX13_comesOut_48 ?_
            refine x_putI_ dX13_comesOut_49 fl1625_13 (by first | (exact MdL.k0 (by assumption)) | (assumption)) (by omega) ?_
            refine x_aload_0 dX13_comesOut_52 ?_
            refine x_iload_2 dX13_comesOut_53 ?_
            refine x_bipush dX13_comesOut_54 rfl ?_
            refine x_icmp_ne (tgt := 63) dX13_comesOut_56 rfl (by omega) (by omega) (fun c56 => ?_) (fun c56 => ?_)
            · refine x_iload_2 dX13_comesOut_63 ?_
              refine x_bipush dX13_comesOut_64 rfl ?_
              refine x_icmp_ne (tgt := 73) dX13_comesOut_66 rfl (by omega) (by omega) (fun c66 => ?_) (fun c66 => ?_)
              · refine x_iload_2 dX13_comesOut_73 ?_
                refine x_bipush dX13_comesOut_74 rfl ?_
                refine x_icmp_ne (tgt := 83) dX13_comesOut_76 rfl (by omega) (by omega) (fun c76 => ?_) (fun c76 => ?_)
                · refine x_iconst dX13_comesOut_83 ?_
                  refine h84 _ ?_
                  unfold opC
                  (repeat' split) <;> omega
                · refine x_iconst dX13_comesOut_79 ?_
                  refine x_goto (tgt := 84) dX13_comesOut_80 rfl ?_
                  refine h84 _ ?_
                  unfold opC
                  (repeat' split) <;> omega
              · refine x_iconst dX13_comesOut_69 ?_
                refine x_goto (tgt := 84) dX13_comesOut_70 rfl ?_
                refine h84 _ ?_
                unfold opC
                (repeat' split) <;> omega
            · refine x_iconst dX13_comesOut_59 ?_
              refine x_goto (tgt := 84) dX13_comesOut_60 rfl ?_
              refine h84 _ ?_
              unfold opC
              (repeat' split) <;> omega
          · exfalso; omega
end MEXP
