/-! THE TWIN: terms, laws -/
set_option maxRecDepth 100000
section MLAW
variable {G : am_G} {d : Nat} {L : am_L} {h : am_H} {Q : am_O → am_L → am_H → Prop} {o s : Int} {T : Txt} {S : Row} {b q : Int}
theorem jnT_2 (op : Int) (t1 t2 : Tau) (v : Int → Int) (h : (t1 v).2 = 1 ∨ (t2 v).2 = 1) : (jnT op t1 t2 v).2 = 1 := by
  unfold jnT
  split
  · first | rfl | exact if_pos h
  · split
    · first | rfl | exact if_pos h
    · split
      · first | rfl | exact if_pos h
      · split
        · rfl
        · first | rfl | exact if_pos h
theorem jn_2 (t1 t2 : Tau) (v : Int → Int) : jnT (opI 2) t1 t2 v = (wr ((t1 v).1 + (t2 v).1), if (t1 v).2 = 1 ∨ (t2 v).2 = 1 then 1 else 0) := rfl
theorem jn_3 (t1 t2 : Tau) (v : Int → Int) : jnT (opI 3) t1 t2 v = (wr ((t1 v).1 - (t2 v).1), if (t1 v).2 = 1 ∨ (t2 v).2 = 1 then 1 else 0) := rfl
theorem jn_4 (t1 t2 : Tau) (v : Int → Int) : jnT (opI 4) t1 t2 v = (wr ((t1 v).1 * (t2 v).1), if (t1 v).2 = 1 ∨ (t2 v).2 = 1 then 1 else 0) := rfl
theorem jn_50 (t1 t2 : Tau) (v : Int → Int) (h : (t2 v).1 = 0) : jnT (opI 5) t1 t2 v = (0, 1) := by
  show (if (t2 v).1 = 0 then ((0 : Int), (1 : Int)) else _) = _
  rw [if_pos h]
theorem jn_5 (t1 t2 : Tau) (v : Int → Int) (h : (t2 v).1 ≠ 0) : jnT (opI 5) t1 t2 v = (bDiv (t1 v).1 (t2 v).1, if (t1 v).2 = 1 ∨ (t2 v).2 = 1 then 1 else 0) := by
  show (if (t2 v).1 = 0 then ((0 : Int), (1 : Int)) else _) = _
  rw [if_neg h]
theorem jn_ok (t1 t2 : Tau) (v : Int → Int) (h1 : (t1 v).2 = 0) (h2 : (t2 v).2 = 0) : (if (t1 v).2 = 1 ∨ (t2 v).2 = 1 then (1 : Int) else 0) = 0 := if_neg (by omega)
set_option maxHeartbeats 8000000 in
theorem seg_walk {A B : Int} {c ci v : Int → Int} (hL : MdL L o) (hB : B ≤ 840) : ∀ (n : Nat) {a b : Int} {ta : Tau}, Seg c ci n a b ta → 0 ≤ a → b ≤ B → ∀ (t : Int) (hh : am_H), 0 ≤ t → t + (b - a + 1) / 2 ≤ 400 → hh (o + 32) = c → hh (o + 33) = ci → hh (o + 35) = v →
    (∀ h', (∀ x, x ≠ (o + 36) → h' x = hh x) → (∀ j, j < t → h' (o + 36) j = hh (o + 36) j) → h' (o + 36) t = (ta v).1 → (ta v).2 = 0 → ∀ l5 l6 l7, am_X G mX13_termOf (d + 1) 5 [aR o, aI A, aI B, aI (t + 1), aI b, l5, l6, l7] [] L h' Q) →
    (∀ h', (∀ x i, x ≠ (o + 36) → (x = o → i ≠ 54) → h' x i = hh x i) → h' o 54 = 1 → (ta v).2 = 1 → Q (.inl [aI 0]) L h') →
    ∀ l5 l6 l7, am_X G mX13_termOf (d + 1) 5 [aR o, aI A, aI B, aI t, aI a, l5, l6, l7] [] L hh Q
  | 0, _, _, _, hs => hs.elim
  | n + 1, a, b, ta, hs => by
    intro ha hb t hh ht hp hc hci hv kt kb l5 l6 l7
    rcases hs with ⟨h1, h2, h3⟩ | ⟨h1, h2, h3, h4⟩ | ⟨u, e, t1, t2, h1, h2, h3, h4, h5⟩
    · subst h2 h3
      refine x_iload4 dX13_termOf_5 ?_
      refine x_iload_2 dX13_termOf_7 ?_
      refine x_icmp_ge (tgt := 165) dX13_termOf_8 rfl (by omega) (by omega) (fun c8 => ?_) (fun c8 => ?_)
      · exfalso; omega
      · refine x_aload_0 dX13_termOf_11 ?_
        refine x_getR dX13_termOf_12 fl1622_13 rfl (by first | (exact MdL.k0 (by assumption)) | (assumption)) (by first | (exact MdL.v_code (by assumption)) | (assumption)) ?_
        refine x_iload4 dX13_termOf_15 ?_
        refine x_iald_ dX13_termOf_17 (by first | (exact MdL.k_code (by assumption)) | (assumption)) (by first | (exact MdL.x_code (by assumption) (by omega) (by omega)) | (omega)) (fun r17 => ?_)
        rw [hc, h1] at r17 ⊢
        refine x_istore5 dX13_termOf_18 rfl ?_
        refine x_iload5 dX13_termOf_20 ?_
        refine x_iconst dX13_termOf_22 ?_
        refine x_icmp_ge (tgt := 65) dX13_termOf_23 rfl (by omega) (by omega) (fun c23 => ?_) (fun c23 => ?_)
        · exfalso; omega
        · refine x_aload_0 dX13_termOf_26 ?_
          refine x_getR dX13_termOf_27 fl1627_13 rfl (by first | (exact MdL.k0 (by assumption)) | (assumption)) (by first | (exact MdL.v_pile (by assumption)) | (assumption)) ?_
          refine x_iload_3 dX13_termOf_30 ?_
          refine x_iload5 dX13_termOf_31 ?_
          refine x_if_ne (tgt := 46) dX13_termOf_33 rfl (by omega) (fun c33 => ?_) (fun c33 => ?_)
          · exact absurd rfl c33
          · refine x_aload_0 dX13_termOf_36 ?_
            refine x_getR dX13_termOf_37 fl1623_13 rfl (by first | (exact MdL.k0 (by assumption)) | (assumption)) (by first | (exact MdL.v_codeInt (by assumption)) | (assumption)) ?_
            refine x_iload4 dX13_termOf_40 ?_
            refine x_iald_ dX13_termOf_42 (by first | (exact MdL.k_codeInt (by assumption)) | (assumption)) (by first | (exact MdL.x_codeInt (by assumption) (by omega) (by omega)) | (omega)) (fun r42 => ?_)
            rw [hci] at r42 ⊢
            refine x_goto (tgt := 58) dX13_termOf_43 rfl ?_
            refine x_iast_ dX13_termOf_58 (by first | (exact MdL.k_pile (by assumption)) | (assumption)) (by first | (exact MdL.x_pile (by assumption) (by omega) (by omega)) | (omega)) (by omega) ?_
            refine x_iinc3 dX13_termOf_59 rfl ?_
            refine x_goto (tgt := 159) dX13_termOf_62 rfl ?_
            refine x_iinc4 dX13_termOf_159 rfl ?_
            refine x_goto (tgt := 5) dX13_termOf_162 rfl ?_
            refine kt _ (fun x hx => am_st_o hx) (fun j hj => am_st_i (by omega)) am_st_s rfl _ _ _
    · subst h3 h4
      refine x_iload4 dX13_termOf_5 ?_
      refine x_iload_2 dX13_termOf_7 ?_
      refine x_icmp_ge (tgt := 165) dX13_termOf_8 rfl (by omega) (by omega) (fun c8 => ?_) (fun c8 => ?_)
      · exfalso; omega
      · refine x_aload_0 dX13_termOf_11 ?_
        refine x_getR dX13_termOf_12 fl1622_13 rfl (by first | (exact MdL.k0 (by assumption)) | (assumption)) (by first | (exact MdL.v_code (by assumption)) | (assumption)) ?_
        refine x_iload4 dX13_termOf_15 ?_
        refine x_iald_ dX13_termOf_17 (by first | (exact MdL.k_code (by assumption)) | (assumption)) (by first | (exact MdL.x_code (by assumption) (by omega) (by omega)) | (omega)) (fun r17 => ?_)
        rw [hc, h1] at r17 ⊢
        refine x_istore5 dX13_termOf_18 rfl ?_
        refine x_iload5 dX13_termOf_20 ?_
        refine x_iconst dX13_termOf_22 ?_
        refine x_icmp_ge (tgt := 65) dX13_termOf_23 rfl (by omega) (by omega) (fun c23 => ?_) (fun c23 => ?_)
        · exfalso; omega
        · refine x_aload_0 dX13_termOf_26 ?_
          refine x_getR dX13_termOf_27 fl1627_13 rfl (by first | (exact MdL.k0 (by assumption)) | (assumption)) (by first | (exact MdL.v_pile (by assumption)) | (assumption)) ?_
          refine x_iload_3 dX13_termOf_30 ?_
          refine x_iload5 dX13_termOf_31 ?_
          refine x_if_ne (tgt := 46) dX13_termOf_33 rfl (by omega) (fun c33 => ?_) (fun c33 => ?_)
          · refine x_aload_0 dX13_termOf_46 ?_
            refine x_getR dX13_termOf_47 fl1626_13 rfl (by first | (exact MdL.k0 (by assumption)) | (assumption)) (by first | (exact MdL.v_variables (by assumption)) | (assumption)) ?_
            refine x_aload_0 dX13_termOf_50 ?_
            refine x_getR dX13_termOf_51 fl1623_13 rfl (by first | (exact MdL.k0 (by assumption)) | (assumption)) (by first | (exact MdL.v_codeInt (by assumption)) | (assumption)) ?_
            refine x_iload4 dX13_termOf_54 ?_
            refine x_iald_ dX13_termOf_56 (by first | (exact MdL.k_codeInt (by assumption)) | (assumption)) (by first | (exact MdL.x_codeInt (by assumption) (by omega) (by omega)) | (omega)) (fun r56 => ?_)
            rw [hci] at r56 ⊢
            refine x_iald_ dX13_termOf_57 (by first | (exact MdL.k_variables (by assumption)) | (assumption)) (by first | (exact MdL.x_variables (by assumption) (by omega) (by omega)) | (omega)) (fun r57 => ?_)
            rw [hv] at r57 ⊢
            refine x_iast_ dX13_termOf_58 (by first | (exact MdL.k_pile (by assumption)) | (assumption)) (by first | (exact MdL.x_pile (by assumption) (by omega) (by omega)) | (omega)) (by omega) ?_
            refine x_iinc3 dX13_termOf_59 rfl ?_
            refine x_goto (tgt := 159) dX13_termOf_62 rfl ?_
            refine x_iinc4 dX13_termOf_159 rfl ?_
            refine x_goto (tgt := 5) dX13_termOf_162 rfl ?_
            refine kt _ (fun x hx => am_st_o hx) (fun j hj => am_st_i (by omega)) am_st_s rfl _ _ _
          · exfalso; omega
    · subst h4 h5
      have g1 := Seg.lt n h1
      have g2 := Seg.lt n h2
      refine seg_walk hL hB n h1 ha (by omega) t hh ht (by omega) hc hci hv (fun ha1 e1 e2 e3 e4 w5 w6 w7 => ?_) (fun h' e1 e2 e3 => kb h' e1 e2 (jnT_2 _ _ _ _ (Or.inl e3))) _ _ _
      refine seg_walk hL hB n h2 (by omega) (by omega) (t + 1) ha1 (by omega) (by omega) (by rw [e1 _ (by omega)]; exact hc) (by rw [e1 _ (by omega)]; exact hci) (by rw [e1 _ (by omega)]; exact hv) (fun h2' f1 f2 f3 f4 w5 w6 w7 => ?_) (fun h' f1 f2 f3 => kb h' (fun x i z0 z1 => by rw [f1 x i z0 z1, e1 x z0]) f2 (jnT_2 _ _ _ _ (Or.inr f3))) _ _ _
      have ec : h2' (o + 32) e = c e := by rw [f1 _ (by omega), e1 _ (by omega), hc]
      have ep : h2' (o + 36) t = (t1 v).1 := by rw [f2 t (by omega)]; exact e3
      have efr : ∀ x, x ≠ (o + 36) → h2' x = hh x := fun x hx => by rw [f1 x hx, e1 x hx]
      refine x_iload4 dX13_termOf_5 ?_
      refine x_iload_2 dX13_termOf_7 ?_
      refine x_icmp_ge (tgt := 165) dX13_termOf_8 rfl (by omega) (by omega) (fun c8 => ?_) (fun c8 => ?_)
      · exfalso; omega
      · refine x_aload_0 dX13_termOf_11 ?_
        refine x_getR dX13_termOf_12 fl1622_13 rfl (by first | (exact MdL.k0 (by assumption)) | (assumption)) (by first | (exact MdL.v_code (by assumption)) | (assumption)) ?_
        refine x_iload4 dX13_termOf_15 ?_
        refine x_iald_ dX13_termOf_17 (by first | (exact MdL.k_code (by assumption)) | (assumption)) (by first | (exact MdL.x_code (by assumption) (by omega) (by omega)) | (omega)) (fun r17 => ?_)
        rw [ec] at r17 ⊢
        refine x_istore5 dX13_termOf_18 rfl ?_
        refine x_iload5 dX13_termOf_20 ?_
        refine x_iconst dX13_termOf_22 ?_
        refine x_icmp_ge (tgt := 65) dX13_termOf_23 rfl (by omega) (by omega) (fun c23 => ?_) (fun c23 => ?_)
        · skip
          refine x_iinc3 dX13_termOf_65 rfl ?_
          refine x_aload_0 dX13_termOf_68 ?_
          refine x_getR dX13_termOf_69 fl1627_13 rfl (by first | (exact MdL.k0 (by assumption)) | (assumption)) (by first | (exact MdL.v_pile (by assumption)) | (assumption)) ?_
          rw [show t + 1 + 1 + -1 = t + 1 by omega]
          refine x_iload_3 dX13_termOf_72 ?_
          refine x_iconst dX13_termOf_73 ?_
          refine x_isub dX13_termOf_74 ?_
          refine x_iald_ dX13_termOf_75 (by first | (exact MdL.k_pile (by assumption)) | (assumption)) (by first | (exact MdL.x_pile (by assumption) (by omega) (by omega)) | (omega)) (fun r75 => ?_)
          rw [show t + 1 - 1 = t by omega, ep] at r75 ⊢
          refine x_istore6 dX13_termOf_76 rfl ?_
          refine x_aload_0 dX13_termOf_78 ?_
          refine x_getR dX13_termOf_79 fl1627_13 rfl (by first | (exact MdL.k0 (by assumption)) | (assumption)) (by first | (exact MdL.v_pile (by assumption)) | (assumption)) ?_
          refine x_iload_3 dX13_termOf_82 ?_
          refine x_iald_ dX13_termOf_83 (by first | (exact MdL.k_pile (by assumption)) | (assumption)) (by first | (exact MdL.x_pile (by assumption) (by omega) (by omega)) | (omega)) (fun r83 => ?_)
          rw [f3] at r83 ⊢
          refine x_istore7 dX13_termOf_84 rfl ?_
          refine x_iload5 dX13_termOf_86 ?_
          refine x_iconst dX13_termOf_88 ?_
          refine x_icmp_ne (tgt := 104) dX13_termOf_89 rfl (by omega) (by omega) (fun c89 => ?_) (fun c89 => ?_)
          · refine x_aload_0 dX13_termOf_104 ?_
            refine x_getR dX13_termOf_105 fl1627_13 rfl (by first | (exact MdL.k0 (by assumption)) | (assumption)) (by first | (exact MdL.v_pile (by assumption)) | (assumption)) ?_
            refine x_iload_3 dX13_termOf_108 ?_
            refine x_iconst dX13_termOf_109 ?_
            refine x_isub dX13_termOf_110 ?_
            refine x_iload5 dX13_termOf_111 ?_
            refine x_iconst dX13_termOf_113 ?_
            refine x_icmp_ne (tgt := 125) dX13_termOf_114 rfl (by omega) (by omega) (fun c114 => ?_) (fun c114 => ?_)
            · refine x_iload5 dX13_termOf_125 ?_
              refine x_iconst dX13_termOf_127 ?_
              refine x_icmp_ne (tgt := 139) dX13_termOf_128 rfl (by omega) (by omega) (fun c128 => ?_) (fun c128 => ?_)
              · refine x_iload5 dX13_termOf_139 ?_
                refine x_iconst dX13_termOf_141 ?_
                refine x_icmp_ne (tgt := 153) dX13_termOf_142 rfl (by omega) (by omega) (fun c142 => ?_) (fun c142 => ?_)
                · have ej := jn_5 t1 t2 v (by omega)
                  rw [show (5 : Int) = c e by omega] at ej
                  rw [← wr_id (bDiv_rg (t1 v).1 (t2 v).1)] at ej
                  refine x_iload6 dX13_termOf_153 ?_
                  refine x_iload7 dX13_termOf_155 ?_
                  refine x_idiv dX13_termOf_157 (by omega) (by omega) ?_
                  rw [show t + 1 - 1 = t by omega]
                  refine x_wr ?_
                  refine x_iast_ dX13_termOf_158 (by first | (exact MdL.k_pile (by assumption)) | (assumption)) (by first | (exact MdL.x_pile (by assumption) (by omega) (by omega)) | (omega)) (by exact wr_rg _) ?_
                  refine x_iinc4 dX13_termOf_159 rfl ?_
                  refine x_goto (tgt := 5) dX13_termOf_162 rfl ?_
                  refine kt _ (fun x hx => by rw [am_st_o hx]; exact efr x hx) (fun j hj => by rw [am_st_i (by omega), f2 j (by omega), e2 j hj]) (by rw [am_st_s, ej]) (by rw [ej]; exact jn_ok _ _ _ e4 f4) _ _ _
                · have ej := jn_4 t1 t2 v
                  rw [show (4 : Int) = c e by omega] at ej
                  refine x_iload6 dX13_termOf_145 ?_
                  refine x_iload7 dX13_termOf_147 ?_
                  refine x_imul dX13_termOf_149 ?_
                  refine x_goto (tgt := 158) dX13_termOf_150 rfl ?_
                  rw [show t + 1 - 1 = t by omega]
                  refine x_wr ?_
                  refine x_iast_ dX13_termOf_158 (by first | (exact MdL.k_pile (by assumption)) | (assumption)) (by first | (exact MdL.x_pile (by assumption) (by omega) (by omega)) | (omega)) (by exact wr_rg _) ?_
                  refine x_iinc4 dX13_termOf_159 rfl ?_
                  refine x_goto (tgt := 5) dX13_termOf_162 rfl ?_
                  refine kt _ (fun x hx => by rw [am_st_o hx]; exact efr x hx) (fun j hj => by rw [am_st_i (by omega), f2 j (by omega), e2 j hj]) (by rw [am_st_s, ej]) (by rw [ej]; exact jn_ok _ _ _ e4 f4) _ _ _
              · have ej := jn_3 t1 t2 v
                rw [show (3 : Int) = c e by omega] at ej
                refine x_iload6 dX13_termOf_131 ?_
                refine x_iload7 dX13_termOf_133 ?_
                refine x_isub dX13_termOf_135 ?_
                refine x_goto (tgt := 158) dX13_termOf_136 rfl ?_
                rw [show t + 1 - 1 = t by omega]
                refine x_wr ?_
                refine x_iast_ dX13_termOf_158 (by first | (exact MdL.k_pile (by assumption)) | (assumption)) (by first | (exact MdL.x_pile (by assumption) (by omega) (by omega)) | (omega)) (by exact wr_rg _) ?_
                refine x_iinc4 dX13_termOf_159 rfl ?_
                refine x_goto (tgt := 5) dX13_termOf_162 rfl ?_
                refine kt _ (fun x hx => by rw [am_st_o hx]; exact efr x hx) (fun j hj => by rw [am_st_i (by omega), f2 j (by omega), e2 j hj]) (by rw [am_st_s, ej]) (by rw [ej]; exact jn_ok _ _ _ e4 f4) _ _ _
            · have ej := jn_2 t1 t2 v
              rw [show (2 : Int) = c e by omega] at ej
              refine x_iload6 dX13_termOf_117 ?_
              refine x_iload7 dX13_termOf_119 ?_
              refine x_iadd dX13_termOf_121 ?_
              refine x_goto (tgt := 158) dX13_termOf_122 rfl ?_
              rw [show t + 1 - 1 = t by omega]
              refine x_wr ?_
              refine x_iast_ dX13_termOf_158 (by first | (exact MdL.k_pile (by assumption)) | (assumption)) (by first | (exact MdL.x_pile (by assumption) (by omega) (by omega)) | (omega)) (by exact wr_rg _) ?_
              refine x_iinc4 dX13_termOf_159 rfl ?_
              refine x_goto (tgt := 5) dX13_termOf_162 rfl ?_
              refine kt _ (fun x hx => by rw [am_st_o hx]; exact efr x hx) (fun j hj => by rw [am_st_i (by omega), f2 j (by omega), e2 j hj]) (by rw [am_st_s, ej]) (by rw [ej]; exact jn_ok _ _ _ e4 f4) _ _ _
          · refine x_iload7 dX13_termOf_92 ?_
            refine x_if_ne (tgt := 104) dX13_termOf_94 rfl (by omega) (fun c94 => ?_) (fun c94 => ?_)
            · refine x_aload_0 dX13_termOf_104 ?_
              refine x_getR dX13_termOf_105 fl1627_13 rfl (by first | (exact MdL.k0 (by assumption)) | (assumption)) (by first | (exact MdL.v_pile (by assumption)) | (assumption)) ?_
              refine x_iload_3 dX13_termOf_108 ?_
              refine x_iconst dX13_termOf_109 ?_
              refine x_isub dX13_termOf_110 ?_
              refine x_iload5 dX13_termOf_111 ?_
              refine x_iconst dX13_termOf_113 ?_
              refine x_icmp_ne (tgt := 125) dX13_termOf_114 rfl (by omega) (by omega) (fun c114 => ?_) (fun c114 => ?_)
              · refine x_iload5 dX13_termOf_125 ?_
                refine x_iconst dX13_termOf_127 ?_
                refine x_icmp_ne (tgt := 139) dX13_termOf_128 rfl (by omega) (by omega) (fun c128 => ?_) (fun c128 => ?_)
                · refine x_iload5 dX13_termOf_139 ?_
                  refine x_iconst dX13_termOf_141 ?_
                  refine x_icmp_ne (tgt := 153) dX13_termOf_142 rfl (by omega) (by omega) (fun c142 => ?_) (fun c142 => ?_)
                  · have ej := jn_5 t1 t2 v (by omega)
                    rw [show (5 : Int) = c e by omega] at ej
                    rw [← wr_id (bDiv_rg (t1 v).1 (t2 v).1)] at ej
                    refine x_iload6 dX13_termOf_153 ?_
                    refine x_iload7 dX13_termOf_155 ?_
                    refine x_idiv dX13_termOf_157 (by omega) (by omega) ?_
                    rw [show t + 1 - 1 = t by omega]
                    refine x_wr ?_
                    refine x_iast_ dX13_termOf_158 (by first | (exact MdL.k_pile (by assumption)) | (assumption)) (by first | (exact MdL.x_pile (by assumption) (by omega) (by omega)) | (omega)) (by exact wr_rg _) ?_
                    refine x_iinc4 dX13_termOf_159 rfl ?_
                    refine x_goto (tgt := 5) dX13_termOf_162 rfl ?_
                    refine kt _ (fun x hx => by rw [am_st_o hx]; exact efr x hx) (fun j hj => by rw [am_st_i (by omega), f2 j (by omega), e2 j hj]) (by rw [am_st_s, ej]) (by rw [ej]; exact jn_ok _ _ _ e4 f4) _ _ _
                  · have ej := jn_4 t1 t2 v
                    rw [show (4 : Int) = c e by omega] at ej
                    refine x_iload6 dX13_termOf_145 ?_
                    refine x_iload7 dX13_termOf_147 ?_
                    refine x_imul dX13_termOf_149 ?_
                    refine x_goto (tgt := 158) dX13_termOf_150 rfl ?_
                    rw [show t + 1 - 1 = t by omega]
                    refine x_wr ?_
                    refine x_iast_ dX13_termOf_158 (by first | (exact MdL.k_pile (by assumption)) | (assumption)) (by first | (exact MdL.x_pile (by assumption) (by omega) (by omega)) | (omega)) (by exact wr_rg _) ?_
                    refine x_iinc4 dX13_termOf_159 rfl ?_
                    refine x_goto (tgt := 5) dX13_termOf_162 rfl ?_
                    refine kt _ (fun x hx => by rw [am_st_o hx]; exact efr x hx) (fun j hj => by rw [am_st_i (by omega), f2 j (by omega), e2 j hj]) (by rw [am_st_s, ej]) (by rw [ej]; exact jn_ok _ _ _ e4 f4) _ _ _
                · have ej := jn_3 t1 t2 v
                  rw [show (3 : Int) = c e by omega] at ej
                  refine x_iload6 dX13_termOf_131 ?_
                  refine x_iload7 dX13_termOf_133 ?_
                  refine x_isub dX13_termOf_135 ?_
                  refine x_goto (tgt := 158) dX13_termOf_136 rfl ?_
                  rw [show t + 1 - 1 = t by omega]
                  refine x_wr ?_
                  refine x_iast_ dX13_termOf_158 (by first | (exact MdL.k_pile (by assumption)) | (assumption)) (by first | (exact MdL.x_pile (by assumption) (by omega) (by omega)) | (omega)) (by exact wr_rg _) ?_
                  refine x_iinc4 dX13_termOf_159 rfl ?_
                  refine x_goto (tgt := 5) dX13_termOf_162 rfl ?_
                  refine kt _ (fun x hx => by rw [am_st_o hx]; exact efr x hx) (fun j hj => by rw [am_st_i (by omega), f2 j (by omega), e2 j hj]) (by rw [am_st_s, ej]) (by rw [ej]; exact jn_ok _ _ _ e4 f4) _ _ _
              · have ej := jn_2 t1 t2 v
                rw [show (2 : Int) = c e by omega] at ej
                refine x_iload6 dX13_termOf_117 ?_
                refine x_iload7 dX13_termOf_119 ?_
                refine x_iadd dX13_termOf_121 ?_
                refine x_goto (tgt := 158) dX13_termOf_122 rfl ?_
                rw [show t + 1 - 1 = t by omega]
                refine x_wr ?_
                refine x_iast_ dX13_termOf_158 (by first | (exact MdL.k_pile (by assumption)) | (assumption)) (by first | (exact MdL.x_pile (by assumption) (by omega) (by omega)) | (omega)) (by exact wr_rg _) ?_
                refine x_iinc4 dX13_termOf_159 rfl ?_
                refine x_goto (tgt := 5) dX13_termOf_162 rfl ?_
                refine kt _ (fun x hx => by rw [am_st_o hx]; exact efr x hx) (fun j hj => by rw [am_st_i (by omega), f2 j (by omega), e2 j hj]) (by rw [am_st_s, ej]) (by rw [ej]; exact jn_ok _ _ _ e4 f4) _ _ _
            · refine x_aload_0 dX13_termOf_97 ?_
              refine x_iconst dX13_termOf_98 ?_
              refine x_putZ_ dX13_termOf_99 fl1628_13 (by first | (exact MdL.k0 (by assumption)) | (assumption)) (by omega) ?_
              refine x_iconst dX13_termOf_102 ?_
              refine x_iret dX13_termOf_103 rfl ?_
              refine kb _ (fun x i z0 z1 => ?_) am_st_s ?_
              · rw [← efr x z0]
                by_cases z : x = o
                · subst z
                  exact am_st_i (z1 rfl)
                · rw [am_st_o z]
              · rw [show c e = 5 by omega, jn_50 t1 t2 v c94]
        · exfalso; omega
theorem C_X13_termOf {a c : Int} {ta : Tau} (hL : MdL L o) (hs : 0 ≤ s ∧ s ≤ 1) (hg : SegT h o s a c ta) (kt : (ta (h (o + 35))).2 = 0 → rg32 (ta (h (o + 35))).1 → ∀ h', (∀ x, x ≠ (o + 36) → h' x = h x) → Q (.inl [aI (ta (h (o + 35))).1]) L h')
    (kb : (ta (h (o + 35))).2 = 1 → ∀ h', (∀ x i, x ≠ (o + 36) → (x = o → i ≠ 54) → h' x i = h x i) → h' o 54 = 1 → Q (.inl [aI 0]) L h') : am_C G mX13_termOf (d + 1) [aR o, aI a, aI c] L h Q := by
  obtain ⟨g1, g2, n, g3⟩ := hg
  have g4 := Seg.lt n g3
  refine x_start okX13_termOf rfl rfl rfl rfl ?_
  refine x_iconst dX13_termOf_0 ?_
  refine x_istore_3 dX13_termOf_1 rfl ?_
  refine x_iload_1 dX13_termOf_2 ?_
  refine x_istore4 dX13_termOf_3 rfl ?_
  skip
  refine seg_walk hL (by omega) n g3 (by omega) (by omega) 0 h (by omega) (by omega) rfl rfl rfl (fun h' e1 e2 e3 e4 l5 l6 l7 => ?_) (fun h' e1 e2 e3 => kb e3 h' e1 e2) _ _ _
  refine x_iload4 dX13_termOf_5 ?_
  refine x_iload_2 dX13_termOf_7 ?_
  refine x_icmp_ge (tgt := 165) dX13_termOf_8 rfl (by omega) (by omega) (fun c8 => ?_) (fun c8 => ?_)
  · refine x_aload_0 dX13_termOf_165 ?_
    refine x_getR dX13_termOf_166 fl1627_13 rfl (by first | (exact MdL.k0 (by assumption)) | (assumption)) (by first | (exact MdL.v_pile (by assumption)) | (assumption)) ?_
    refine x_iconst dX13_termOf_169 ?_
    refine x_iald_ dX13_termOf_170 (by first | (exact MdL.k_pile (by assumption)) | (assumption)) (by first | (exact MdL.x_pile (by assumption) (by omega) (by omega)) | (omega)) (fun r170 => ?_)
    rw [e3] at r170 ⊢
    refine x_iret dX13_termOf_171 rfl ?_
    exact kt e4 r170 h' e1
  · exfalso; omega
end MLAW
