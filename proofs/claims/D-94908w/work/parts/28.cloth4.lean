/-! CLOTH: takes, asks, does, goes -/
set_option maxRecDepth 100000
theorem bRem_nn {x n : Int} (hx : 0 ≤ x ∧ x ≤ 2147483647) (hn : 0 < n ∧ n ≤ 2147483647) : bRem x n = x % n := by
  unfold bRem
  have e1 : Int32.ofInt x = nI x.toNat := by
    show Int32.ofInt x = Int32.ofNat x.toNat
    rw [show x = ((x.toNat : Nat) : Int) by omega]
    rfl
  have e2 : Int32.ofInt n = nI n.toNat := by
    show Int32.ofInt n = Int32.ofNat n.toNat
    rw [show n = ((n.toNat : Nat) : Int) by omega]
    rfl
  rw [e1, e2, pk_rem (by omega) (by omega) (by omega), nI_toInt (Nat.lt_trans (Nat.mod_lt _ (by omega)) (by omega))]
  rw [Int.natCast_emod]
  congr 1 <;> omega
theorem bDiv_nn {x n : Int} (hx : 0 ≤ x ∧ x ≤ 2147483647) (hn : 0 < n ∧ n ≤ 2147483647) : bDiv x n = x / n := by
  unfold bDiv
  have e1 : Int32.ofInt x = nI x.toNat := by
    show Int32.ofInt x = Int32.ofNat x.toNat
    rw [show x = ((x.toNat : Nat) : Int) by omega]
    rfl
  have e2 : Int32.ofInt n = nI n.toNat := by
    show Int32.ofInt n = Int32.ofNat n.toNat
    rw [show n = ((n.toNat : Nat) : Int) by omega]
    rfl
  have hd : x.toNat / n.toNat ≤ x.toNat := Nat.div_le_self _ _
  rw [e1, e2, pk_div (by omega) (by omega) (by omega), nI_toInt (by omega)]
  rw [Int.natCast_ediv]
  congr 1 <;> omega
section CLOTH4
variable {G : am_G} {d : Nat} {L : am_L} {h : am_H} {Q : am_O → am_L → am_H → Prop} {c c2 t b q : Int} {T : Txt} {S : Row}
theorem am_cp_o {h : am_H} {s e sp dp n b : Int} (hne : b ≠ e) : am_cp h s e sp dp n b = h b := by
  funext j
  exact if_neg (fun z => hne z.1)
theorem am_cp_at (h : am_H) (s e sp dp n j : Int) : am_cp h s e sp dp n e j = if dp ≤ j ∧ j < dp + n then h s (sp + (j - dp)) else h e j := by
  unfold am_cp
  by_cases z : dp ≤ j ∧ j < dp + n
  · rw [if_pos ⟨rfl, z⟩, if_pos z]
  · rw [if_neg (fun q => z q.2), if_neg z]
set_option maxHeartbeats 4000000 in
theorem C_X5_takes (hr : RC L h c2 T S) (hc : ClL L c) (hI : RowI T S b q) (hT : TxtI T) (hne : c + 31 ≤ c2 ∨ c2 + 31 ≤ c)
    (k : ∀ h', RC L h' c T S → FrC h h' c → Q (.inl []) L h') : am_C G mX5_takes (d + 1) [aR c, aR c2] L h Q := by
  have hnb := hr.nb hI hT
  have hr0 := hr
  have hc0 := hc
  have hM := hT.1
  obtain ⟨hc2, rn, rx, rk, r7, r8, r9⟩ := hr
  refine x_start okX5_takes rfl rfl rfl rfl ?_
  refine x_aload_1 dX5_takes_0 ?_
  refine x_getR dX5_takes_1 fl431_5 rfl (by first | (exact ClL.k0 (by assumption)) | (assumption)) (by first | (exact ClL.f0 (by assumption)) | (assumption)) ?_
  refine x_iconst dX5_takes_4 ?_
  refine x_aload_0 dX5_takes_5 ?_
  refine x_getR dX5_takes_6 fl431_5 rfl (by first | (exact ClL.k0 (by assumption)) | (assumption)) (by first | (exact ClL.f0 (by assumption)) | (assumption)) ?_
  refine x_iconst dX5_takes_9 ?_
  refine x_bipush dX5_takes_10 rfl ?_
  refine x_acopy (k := 100) dX5_takes_12 q1241 q866 q865 q145 (by decide) (by decide) (by first | (exact ClL.k1 (by assumption)) | (assumption)) (by first | (exact ClL.k1 (by assumption)) | (assumption)) (by omega) (by omega) (by omega) (by first | (rw [(ClL.l1 (by assumption))]; omega) | (omega)) (by first | (rw [(ClL.l1 (by assumption))]; omega) | (omega)) rfl ?_
  refine x_aload_1 dX5_takes_15 ?_
  refine x_getR dX5_takes_16 fl433_5 rfl (by first | (exact ClL.k0 (by assumption)) | (assumption)) (by first | (exact ClL.f1 (by assumption)) | (assumption)) ?_
  refine x_iconst dX5_takes_19 ?_
  refine x_aload_0 dX5_takes_20 ?_
  refine x_getR dX5_takes_21 fl433_5 rfl (by first | (exact ClL.k0 (by assumption)) | (assumption)) (by first | (exact ClL.f1 (by assumption)) | (assumption)) ?_
  refine x_iconst dX5_takes_24 ?_
  refine x_bipush dX5_takes_25 rfl ?_
  refine x_acopy (k := 100) dX5_takes_27 q1241 q866 q865 q145 (by decide) (by decide) (by first | (exact ClL.k2 (by assumption)) | (assumption)) (by first | (exact ClL.k2 (by assumption)) | (assumption)) (by omega) (by omega) (by omega) (by first | (rw [(ClL.l2 (by assumption))]; omega) | (omega)) (by first | (rw [(ClL.l2 (by assumption))]; omega) | (omega)) rfl ?_
  refine x_aload_1 dX5_takes_30 ?_
  refine x_getR dX5_takes_31 fl435_5 rfl (by first | (exact ClL.k0 (by assumption)) | (assumption)) (by first | (exact ClL.f2 (by assumption)) | (assumption)) ?_
  refine x_iconst dX5_takes_34 ?_
  refine x_aload_0 dX5_takes_35 ?_
  refine x_getR dX5_takes_36 fl435_5 rfl (by first | (exact ClL.k0 (by assumption)) | (assumption)) (by first | (exact ClL.f2 (by assumption)) | (assumption)) ?_
  refine x_iconst dX5_takes_39 ?_
  refine x_bipush dX5_takes_40 rfl ?_
  refine x_acopy (k := 100) dX5_takes_42 q1241 q866 q865 q145 (by decide) (by decide) (by first | (exact ClL.k3 (by assumption)) | (assumption)) (by first | (exact ClL.k3 (by assumption)) | (assumption)) (by omega) (by omega) (by omega) (by first | (rw [(ClL.l3 (by assumption))]; omega) | (omega)) (by first | (rw [(ClL.l3 (by assumption))]; omega) | (omega)) rfl ?_
  refine x_aload_1 dX5_takes_45 ?_
  refine x_getR dX5_takes_46 fl439_5 rfl (by first | (exact ClL.k0 (by assumption)) | (assumption)) (by first | (exact ClL.f3 (by assumption)) | (assumption)) ?_
  refine x_iconst dX5_takes_49 ?_
  refine x_aload_0 dX5_takes_50 ?_
  refine x_getR dX5_takes_51 fl439_5 rfl (by first | (exact ClL.k0 (by assumption)) | (assumption)) (by first | (exact ClL.f3 (by assumption)) | (assumption)) ?_
  refine x_iconst dX5_takes_54 ?_
  refine x_bipush dX5_takes_55 rfl ?_
  refine x_acopy (k := 100) dX5_takes_57 q1241 q866 q865 q145 (by decide) (by decide) (by first | (exact ClL.k4 (by assumption)) | (assumption)) (by first | (exact ClL.k4 (by assumption)) | (assumption)) (by omega) (by omega) (by omega) (by first | (rw [(ClL.l4 (by assumption))]; omega) | (omega)) (by first | (rw [(ClL.l4 (by assumption))]; omega) | (omega)) rfl ?_
  refine x_iconst dX5_takes_60 ?_
  refine x_istore_2 dX5_takes_61 rfl ?_
  refine x_up1 7 (fun m h1 => 0 ≤ m → m ≤ 7 → FrC h h1 c → (∀ j, 0 ≤ j → j < 7 → h1 (c + 1) j = h (c2 + 1) j ∧ h1 (c + 2) j = h (c2 + 2) j ∧ h1 (c + 3) j = h (c2 + 3) j ∧ h1 (c + 4) j = h (c2 + 4) j) → (∀ o j, 0 ≤ o → o < m → 0 ≤ j → j < rN S o → h1 (c + 6 + o) j = rW S o j ∧ h1 (c + 14 + o) j = rS S o j ∧ h1 (c + 22 + o) j = rT S o j) → am_X G mX5_takes (d + 1) 62 [aR c, aR c2, aI m] [] L h1 Q) ?_ 0 _ (by omega) (by omega) ?_ ?_ (fun o j h0 h1 => by omega)
  · intro m h1 ih g0 g1 hfr hc4 hcp
    refine x_iload_2 dX5_takes_62 ?_
    refine x_bipush dX5_takes_63 rfl ?_
    refine x_icmp_ge (tgt := 143) dX5_takes_65 rfl (by omega) (by omega) (fun c65 => ?_) (fun c65 => ?_)
    · refine x_aload_0 dX5_takes_143 ?_
      refine x_aload_1 dX5_takes_144 ?_
      refine x_getI_ dX5_takes_145 fl447_5 (by first | (exact ClL.k0 (by assumption)) | (assumption)) (fun r145 => ?_)
      refine x_putI_ dX5_takes_148 fl447_5 (by first | (exact ClL.k0 (by assumption)) | (assumption)) (by omega) ?_
      refine x_aload_0 dX5_takes_151 ?_
      refine x_aload_1 dX5_takes_152 ?_
      refine x_getI_ dX5_takes_153 fl449_5 (by first | (exact ClL.k0 (by assumption)) | (assumption)) (fun r153 => ?_)
      refine x_putI_ dX5_takes_156 fl449_5 (by first | (exact ClL.k0 (by assumption)) | (assumption)) (by omega) ?_
      refine x_aload_0 dX5_takes_159 ?_
      refine x_aload_1 dX5_takes_160 ?_
      refine x_getI_ dX5_takes_161 fl452_5 (by first | (exact ClL.k0 (by assumption)) | (assumption)) (fun r161 => ?_)
      refine x_putI_ dX5_takes_164 fl452_5 (by first | (exact ClL.k0 (by assumption)) | (assumption)) (by omega) ?_
      refine x_ret dX5_takes_167 rfl ?_
      refine k _ ⟨hc0, fun o z0 z1 => ?_, fun o z0 z1 => ?_, fun o j z0 z1 z2 z3 => ?_, ?_, ?_, ?_⟩ (fun a ha => ?_)
      · simp (disch := omega) only [am_st_o]
        rw [(hc4 o z0 z1).2.2.1]
        exact rn o z0 z1
      · simp (disch := omega) only [am_st_o]
        obtain ⟨e1, e2, e3, e4⟩ := hc4 o z0 (by omega)
        rw [e1, e2, e4]
        exact rx o z0 z1
      · simp (disch := omega) only [am_st_o]
        exact hcp o j z0 (by omega) z2 z3
      · simp (disch := omega) only [am_st_o, am_st_i, am_st_s]
        rw [hfr c2 (by omega)]
        exact r7
      · simp (disch := omega) only [am_st_o, am_st_i, am_st_s]
        rw [hfr c2 (by omega)]
        exact r8
      · simp (disch := omega) only [am_st_o, am_st_i, am_st_s]
        rw [hfr c2 (by omega)]
        exact r9
      · simp (disch := omega) only [am_st_o]
        exact hfr a ha
    · have e3 : h1 (c2 + 3) m = rN S m := by rw [hfr _ (by omega)]; exact rn m g0 (by omega)
      have nb := hnb m g0 (by omega)
      rw [rn m g0 (by omega)] at nb
      refine x_aload_1 dX5_takes_68 ?_
      refine x_getR dX5_takes_69 fl442_5 rfl (by first | (exact ClL.k0 (by assumption)) | (assumption)) (by first | (exact ClL.f4 (by assumption)) | (assumption)) ?_
      refine x_iload_2 dX5_takes_72 ?_
      refine x_aald dX5_takes_73 (by first | (exact ClL.k5 (by assumption)) | (assumption)) (by decide) (by decide) (by first | (exact ClL.r5 (by assumption) (by omega) (by omega)) | (omega)) (by first | (exact ClL.fw (by assumption) (by omega) (by omega)) | (assumption)) ?_
      refine x_iconst dX5_takes_74 ?_
      refine x_aload_0 dX5_takes_75 ?_
      refine x_getR dX5_takes_76 fl442_5 rfl (by first | (exact ClL.k0 (by assumption)) | (assumption)) (by first | (exact ClL.f4 (by assumption)) | (assumption)) ?_
      refine x_iload_2 dX5_takes_79 ?_
      refine x_aald dX5_takes_80 (by first | (exact ClL.k5 (by assumption)) | (assumption)) (by decide) (by decide) (by first | (exact ClL.r5 (by assumption) (by omega) (by omega)) | (omega)) (by first | (exact ClL.fw (by assumption) (by omega) (by omega)) | (assumption)) ?_
      refine x_iconst dX5_takes_81 ?_
      refine x_aload_1 dX5_takes_82 ?_
      refine x_getR dX5_takes_83 fl435_5 rfl (by first | (exact ClL.k0 (by assumption)) | (assumption)) (by first | (exact ClL.f2 (by assumption)) | (assumption)) ?_
      refine x_iload_2 dX5_takes_86 ?_
      refine x_iald_ dX5_takes_87 (by first | (exact ClL.k3 (by assumption)) | (assumption)) (by first | (exact ClL.r3 (by assumption) (by omega) (by omega)) | (omega)) (fun r87 => ?_)
      rw [e3] at r87 ⊢
      refine x_acopy (k := 100) dX5_takes_88 q1241 q866 q865 q145 (by decide) (by decide) (by first | (exact ClL.kw (by assumption) (by omega) (by omega)) | (assumption)) (by first | (exact ClL.kw (by assumption) (by omega) (by omega)) | (assumption)) (by omega) (by omega) (by omega) (by first | (rw [(ClL.lw (by assumption) (by omega) (by omega))]; omega) | (omega)) (by first | (rw [(ClL.lw (by assumption) (by omega) (by omega))]; omega) | (omega)) rfl ?_
      refine x_aload_1 dX5_takes_91 ?_
      refine x_getR dX5_takes_92 fl444_5 rfl (by first | (exact ClL.k0 (by assumption)) | (assumption)) (by first | (exact ClL.f5 (by assumption)) | (assumption)) ?_
      refine x_iload_2 dX5_takes_95 ?_
      refine x_aald dX5_takes_96 (by first | (exact ClL.k13 (by assumption)) | (assumption)) (by decide) (by decide) (by first | (exact ClL.r13 (by assumption) (by omega) (by omega)) | (omega)) (by first | (exact ClL.fs (by assumption) (by omega) (by omega)) | (assumption)) ?_
      refine x_iconst dX5_takes_97 ?_
      refine x_aload_0 dX5_takes_98 ?_
      refine x_getR dX5_takes_99 fl444_5 rfl (by first | (exact ClL.k0 (by assumption)) | (assumption)) (by first | (exact ClL.f5 (by assumption)) | (assumption)) ?_
      refine x_iload_2 dX5_takes_102 ?_
      refine x_aald dX5_takes_103 (by first | (exact ClL.k13 (by assumption)) | (assumption)) (by decide) (by decide) (by first | (exact ClL.r13 (by assumption) (by omega) (by omega)) | (omega)) (by first | (exact ClL.fs (by assumption) (by omega) (by omega)) | (assumption)) ?_
      refine x_iconst dX5_takes_104 ?_
      refine x_aload_1 dX5_takes_105 ?_
      refine x_getR dX5_takes_106 fl435_5 rfl (by first | (exact ClL.k0 (by assumption)) | (assumption)) (by first | (exact ClL.f2 (by assumption)) | (assumption)) ?_
      refine x_iload_2 dX5_takes_109 ?_
      refine x_iald_ dX5_takes_110 (by first | (exact ClL.k3 (by assumption)) | (assumption)) (by first | (exact ClL.r3 (by assumption) (by omega) (by omega)) | (omega)) (fun r110 => ?_)
      simp (disch := omega) only [am_cp_o] at r110 ⊢
      rw [e3] at r110 ⊢
      refine x_acopy (k := 100) dX5_takes_111 q1241 q866 q865 q145 (by decide) (by decide) (by first | (exact ClL.ks (by assumption) (by omega) (by omega)) | (assumption)) (by first | (exact ClL.ks (by assumption) (by omega) (by omega)) | (assumption)) (by omega) (by omega) (by omega) (by first | (rw [(ClL.ls (by assumption) (by omega) (by omega))]; omega) | (omega)) (by first | (rw [(ClL.ls (by assumption) (by omega) (by omega))]; omega) | (omega)) rfl ?_
      refine x_aload_1 dX5_takes_114 ?_
      refine x_getR dX5_takes_115 fl446_5 rfl (by first | (exact ClL.k0 (by assumption)) | (assumption)) (by first | (exact ClL.f6 (by assumption)) | (assumption)) ?_
      refine x_iload_2 dX5_takes_118 ?_
      refine x_aald dX5_takes_119 (by first | (exact ClL.k21 (by assumption)) | (assumption)) (by decide) (by decide) (by first | (exact ClL.r21 (by assumption) (by omega) (by omega)) | (omega)) (by first | (exact ClL.ft (by assumption) (by omega) (by omega)) | (assumption)) ?_
      refine x_iconst dX5_takes_120 ?_
      refine x_aload_0 dX5_takes_121 ?_
      refine x_getR dX5_takes_122 fl446_5 rfl (by first | (exact ClL.k0 (by assumption)) | (assumption)) (by first | (exact ClL.f6 (by assumption)) | (assumption)) ?_
      refine x_iload_2 dX5_takes_125 ?_
      refine x_aald dX5_takes_126 (by first | (exact ClL.k21 (by assumption)) | (assumption)) (by decide) (by decide) (by first | (exact ClL.r21 (by assumption) (by omega) (by omega)) | (omega)) (by first | (exact ClL.ft (by assumption) (by omega) (by omega)) | (assumption)) ?_
      refine x_iconst dX5_takes_127 ?_
      refine x_aload_1 dX5_takes_128 ?_
      refine x_getR dX5_takes_129 fl435_5 rfl (by first | (exact ClL.k0 (by assumption)) | (assumption)) (by first | (exact ClL.f2 (by assumption)) | (assumption)) ?_
      refine x_iload_2 dX5_takes_132 ?_
      refine x_iald_ dX5_takes_133 (by first | (exact ClL.k3 (by assumption)) | (assumption)) (by first | (exact ClL.r3 (by assumption) (by omega) (by omega)) | (omega)) (fun r133 => ?_)
      simp (disch := omega) only [am_cp_o] at r133 ⊢
      rw [e3] at r133 ⊢
      refine x_acopy (k := 100) dX5_takes_134 q1241 q866 q865 q145 (by decide) (by decide) (by first | (exact ClL.kt (by assumption) (by omega) (by omega)) | (assumption)) (by first | (exact ClL.kt (by assumption) (by omega) (by omega)) | (assumption)) (by omega) (by omega) (by omega) (by first | (rw [(ClL.lt (by assumption) (by omega) (by omega))]; omega) | (omega)) (by first | (rw [(ClL.lt (by assumption) (by omega) (by omega))]; omega) | (omega)) rfl ?_
      refine x_iinc2 dX5_takes_137 rfl ?_
      refine x_goto (tgt := 62) dX5_takes_140 rfl ?_
      refine ih (by omega) _ (by omega) (by omega) (fun a ha => ?_) (fun j z0 z1 => ?_) (fun o j z0 z1 z2 z3 => ?_)
      · simp (disch := omega) only [am_cp_o]
        exact hfr a ha
      · simp (disch := omega) only [am_cp_o]
        exact hc4 j z0 z1
      · by_cases e : o = m
        · subst e
          obtain ⟨e1, e2, e4⟩ := rk o j z0 (by omega) z2 z3
          simp (disch := omega) only [am_cp_o, am_cp_at]
          rw [if_pos (by omega), if_pos (by omega), if_pos (by omega), show 0 + (j - 0) = j by omega, hfr _ (by omega), hfr _ (by omega), hfr _ (by omega)]
          exact ⟨e1, e2, e4⟩
        · simp (disch := omega) only [am_cp_o]
          exact hcp o j z0 (by omega) z2 z3
  · intro a ha
    simp (disch := omega) only [am_cp_o]
  · intro j z0 z1
    simp (disch := omega) only [am_cp_o, am_cp_at]
    rw [if_pos (by omega), if_pos (by omega), if_pos (by omega), if_pos (by omega), show 0 + (j - 0) = j by omega]
    exact ⟨rfl, rfl, rfl, rfl⟩
set_option maxHeartbeats 4000000 in
theorem C_X5_asks {l m mi le lo x y : Int} {la : Lam} (hcl : ClL L c) (hl : LawAt L l la) (hm : 0 ≤ m ∧ m < 7) (hx : h (c + 1) m = x) (hy : h (c + 2) m = y) (hmi : rg32 mi) (hle : rg32 le) (hlo : rg32 lo)
    (k : ∀ h', (∀ a, a ≠ c + 29 → a ≠ c + 30 → h' a = h a) → Q (.inl [aI (la (env6 x y mi le lo m))]) L h') : am_C G mX5_asks (d + 422) [aR c, aR l, aI m, aI mi, aI le, aI lo] L h Q := by
  have kl := hl.1
  refine x_start okX5_asks rfl rfl rfl rfl ?_
  refine x_aload_0 dX5_asks_0 ?_
  refine x_getR dX5_asks_1 fl453_5 rfl (by first | (exact ClL.k0 (by assumption)) | (assumption)) (by first | (exact ClL.f10 (by assumption)) | (assumption)) ?_
  refine x_getR dX5_asks_4 fl423_6 rfl (by first | (exact ClL.k29 (by assumption)) | (assumption)) (by first | (exact ClL.f29 (by assumption)) | (assumption)) ?_
  refine x_iconst dX5_asks_7 ?_
  refine x_aload_0 dX5_asks_8 ?_
  refine x_getR dX5_asks_9 fl431_5 rfl (by first | (exact ClL.k0 (by assumption)) | (assumption)) (by first | (exact ClL.f0 (by assumption)) | (assumption)) ?_
  refine x_iload_2 dX5_asks_12 ?_
  refine x_iald_ dX5_asks_13 (by first | (exact ClL.k1 (by assumption)) | (assumption)) (by first | (exact ClL.r1 (by assumption) (by omega) (by omega)) | (omega)) (fun r13 => ?_)
  refine x_iast_ dX5_asks_14 (by first | (exact ClL.k30 (by assumption)) | (assumption)) (by first | (exact ClL.r30 (by assumption) (by omega) (by omega)) | (omega)) (by omega) ?_
  refine x_aload_0 dX5_asks_15 ?_
  refine x_getR dX5_asks_16 fl453_5 rfl (by first | (exact ClL.k0 (by assumption)) | (assumption)) (by first | (exact ClL.f10 (by assumption)) | (assumption)) ?_
  refine x_getR dX5_asks_19 fl423_6 rfl (by first | (exact ClL.k29 (by assumption)) | (assumption)) (by first | (exact ClL.f29 (by assumption)) | (assumption)) ?_
  refine x_iconst dX5_asks_22 ?_
  refine x_aload_0 dX5_asks_23 ?_
  refine x_getR dX5_asks_24 fl433_5 rfl (by first | (exact ClL.k0 (by assumption)) | (assumption)) (by first | (exact ClL.f1 (by assumption)) | (assumption)) ?_
  refine x_iload_2 dX5_asks_27 ?_
  refine x_iald_ dX5_asks_28 (by first | (exact ClL.k2 (by assumption)) | (assumption)) (by first | (exact ClL.r2 (by assumption) (by omega) (by omega)) | (omega)) (fun r28 => ?_)
  simp (disch := omega) only [am_st_o] at r28 ⊢
  refine x_iast_ dX5_asks_29 (by first | (exact ClL.k30 (by assumption)) | (assumption)) (by first | (exact ClL.r30 (by assumption) (by omega) (by omega)) | (omega)) (by omega) ?_
  refine x_aload_0 dX5_asks_30 ?_
  refine x_getR dX5_asks_31 fl453_5 rfl (by first | (exact ClL.k0 (by assumption)) | (assumption)) (by first | (exact ClL.f10 (by assumption)) | (assumption)) ?_
  refine x_getR dX5_asks_34 fl423_6 rfl (by first | (exact ClL.k29 (by assumption)) | (assumption)) (by first | (exact ClL.f29 (by assumption)) | (assumption)) ?_
  refine x_iconst dX5_asks_37 ?_
  refine x_iload_3 dX5_asks_38 ?_
  refine x_iast_ dX5_asks_39 (by first | (exact ClL.k30 (by assumption)) | (assumption)) (by first | (exact ClL.r30 (by assumption) (by omega) (by omega)) | (omega)) (by omega) ?_
  refine x_aload_0 dX5_asks_40 ?_
  refine x_getR dX5_asks_41 fl453_5 rfl (by first | (exact ClL.k0 (by assumption)) | (assumption)) (by first | (exact ClL.f10 (by assumption)) | (assumption)) ?_
  refine x_getR dX5_asks_44 fl423_6 rfl (by first | (exact ClL.k29 (by assumption)) | (assumption)) (by first | (exact ClL.f29 (by assumption)) | (assumption)) ?_
  refine x_iconst dX5_asks_47 ?_
  refine x_iload4 dX5_asks_48 ?_
  refine x_iast_ dX5_asks_50 (by first | (exact ClL.k30 (by assumption)) | (assumption)) (by first | (exact ClL.r30 (by assumption) (by omega) (by omega)) | (omega)) (by omega) ?_
  refine x_aload_0 dX5_asks_51 ?_
  refine x_getR dX5_asks_52 fl453_5 rfl (by first | (exact ClL.k0 (by assumption)) | (assumption)) (by first | (exact ClL.f10 (by assumption)) | (assumption)) ?_
  refine x_getR dX5_asks_55 fl423_6 rfl (by first | (exact ClL.k29 (by assumption)) | (assumption)) (by first | (exact ClL.f29 (by assumption)) | (assumption)) ?_
  refine x_iconst dX5_asks_58 ?_
  refine x_iload5 dX5_asks_59 ?_
  refine x_iast_ dX5_asks_61 (by first | (exact ClL.k30 (by assumption)) | (assumption)) (by first | (exact ClL.r30 (by assumption) (by omega) (by omega)) | (omega)) (by omega) ?_
  refine x_aload_0 dX5_asks_62 ?_
  refine x_getR dX5_asks_63 fl453_5 rfl (by first | (exact ClL.k0 (by assumption)) | (assumption)) (by first | (exact ClL.f10 (by assumption)) | (assumption)) ?_
  refine x_getR dX5_asks_66 fl423_6 rfl (by first | (exact ClL.k29 (by assumption)) | (assumption)) (by first | (exact ClL.f29 (by assumption)) | (assumption)) ?_
  refine x_iconst dX5_asks_69 ?_
  refine x_iload_2 dX5_asks_70 ?_
  refine x_iast_ dX5_asks_71 (by first | (exact ClL.k30 (by assumption)) | (assumption)) (by first | (exact ClL.r30 (by assumption) (by omega) (by omega)) | (omega)) (by omega) ?_
  refine x_aload_1 dX5_asks_72 ?_
  refine x_aload_0 dX5_asks_73 ?_
  refine x_getR dX5_asks_74 fl453_5 rfl (by first | (exact ClL.k0 (by assumption)) | (assumption)) (by first | (exact ClL.f10 (by assumption)) | (assumption)) ?_
  refine x_callV1 dX5_asks_77 rfl okX15_of q548 q549 q550 (by assumption) am_k15 rfl (C_X15_of hl hcl.k29 hcl.f29 hcl.k30 hcl.l30 (by omega) (fun b => (x_k1 ?_)))
  refine x_iret dX5_asks_80 rfl ?_
  refine x_q1 (v' := la (env6 x y mi le lo m)) ?_ (k _ (fun a h1 h2 => ?_))
  · refine law_ext hl (fun i h0 h1 => ?_)
    simp (disch := omega) only [am_st_o, am_st_at, true_and]
    unfold env6
    rw [hx, hy]
    (repeat' split) <;> omega
  · simp (disch := omega) only [am_st_o]
end CLOTH4
