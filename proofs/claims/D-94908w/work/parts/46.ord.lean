/-! ORDERS: waits of the twin, laysWaits, fillsOrders, orders -/
set_option maxRecDepth 100000
theorem tb_bits : (List.range 128).all (fun a => (List.range 7).all (fun m => decide (bt (a : Nat) (m : Nat) = 1 → bits (dif (a : Nat) (bShl 1 (m : Nat))) + 1 = bits (a : Nat)))) = true := by decide +kernel
theorem tb_pw : (List.range 8).all (fun n => (List.range 128).all (fun a => decide (((List.range 7).all (fun m => decide (n ≤ m → bt (a : Nat) (m : Nat) = 0)) = true → (a : Int) < bShl 1 (n : Nat)) ∧ 1 ≤ bShl 1 (n : Nat) ∧ bShl 1 (n : Nat) ≤ 128))) = true := by decide +kernel
theorem pw_bd {n : Int} (hn : 0 ≤ n ∧ n ≤ 7) : 1 ≤ bShl 1 n ∧ bShl 1 n ≤ 128 := by
  obtain ⟨n, rfl, hn'⟩ := nat_lt (n := 8) (a := n) ⟨hn.1, by omega⟩
  exact (tb2 tb_pw hn' (c := 0) (by omega)).2
theorem pw_lt {n a : Int} (hn : 0 ≤ n ∧ n ≤ 7) (ha : 0 ≤ a ∧ a < 128) (h : ∀ m, n ≤ m → m < 7 → bt a m = 0) : a < bShl 1 n := by
  obtain ⟨n, rfl, hn'⟩ := nat_lt (n := 8) (a := n) ⟨hn.1, by omega⟩
  obtain ⟨a, rfl, ha'⟩ := nat_lt (n := 128) ha
  refine (tb2 tb_pw hn' ha').1 (List.all_eq_true.mpr fun m hm => decide_eq_true fun z => h m (by omega) ?_)
  have := List.mem_range.mp hm
  omega
theorem clr_bits {a m : Int} (ha : 0 ≤ a ∧ a < 128) (hm : 0 ≤ m ∧ m < 7) (h : bt a m = 1) : bits (dif a (bShl 1 m)) + 1 = bits a := by
  obtain ⟨a, rfl, ha'⟩ := nat_lt (n := 128) ha
  obtain ⟨m, rfl, hm'⟩ := nat_lt (n := 7) hm
  exact tb2 tb_bits ha' hm' h
theorem clr_rg {a m : Int} (ha : 0 ≤ a ∧ a < 128) (hm : 0 ≤ m ∧ m < 7) : 0 ≤ dif a (bShl 1 m) ∧ dif a (bShl 1 m) < 128 := (dif_bt ha (shl_bt hm (o := 0) ⟨by decide, by decide⟩).2 (m := 0) ⟨by decide, by decide⟩).2
/-- in how many orders the men of a set get home -/
def ordF (M : Int) (wf : Int → Int) : Nat → Int → Int
  | 0, _ => 0
  | n + 1, s => if s = 0 then 1 else sumI M (fun m => if bt s m = 1 ∧ bAnd (wf m) s = 0 then ordF M wf n (dif s (bShl 1 m)) else 0)
theorem ordF_le {M : Int} (hM : M ≤ 7) (wf : Int → Int) : ∀ (n : Nat) (s : Int) (n' : Nat), (0 ≤ s ∧ s < 128) → s < n → s < n' → ordF M wf n s = ordF M wf n' s
  | 0, s, n', h, h1, h2 => by omega
  | n + 1, s, 0, h, h1, h2 => by omega
  | n + 1, s, n' + 1, h, h1, h2 => by
    unfold ordF
    split
    · rfl
    · refine sumI_congr fun m z0 z1 => ?_
      split
      · rename_i z
        have c1 := clr_lt h ⟨z0, by omega⟩ z.1
        exact ordF_le hM wf n _ n' (clr_rg h ⟨z0, by omega⟩) (by omega) (by omega)
      · rfl
theorem ordF_bd {M : Int} (hM : 0 ≤ M ∧ M ≤ 7) (wf : Int → Int) : ∀ (n k : Nat) (s : Int), (0 ≤ s ∧ s < 128) → bits s ≤ k → 0 ≤ ordF M wf n s ∧ ordF M wf n s ≤ (7 ^ k : Nat)
  | 0, k, s, h, h1 => ⟨by show (0 : Int) ≤ 0; omega, by show (0 : Int) ≤ _; exact Int.natCast_nonneg _⟩
  | n + 1, 0, s, h, h1 => by
    unfold ordF
    split
    · exact ⟨by decide, by decide⟩
    · have := sumI_bd (n := M) (b := 0) (f := fun m => if bt s m = 1 ∧ bAnd (wf m) s = 0 then ordF M wf n (dif s (bShl 1 m)) else 0) hM.1 (fun m z0 z1 => by
        split
        · rename_i z
          have := clr_bits h ⟨z0, by omega⟩ z.1
          have := bits_bd (dif s (bShl 1 m))
          omega
        · omega)
      simp only [Nat.pow_zero]
      omega
  | n + 1, k + 1, s, h, h1 => by
    unfold ordF
    have hp : 0 < 7 ^ (k + 1) := Nat.pow_pos (by decide)
    split
    · omega
    · have := sumI_bd (n := M) (b := (7 ^ k : Nat)) (f := fun m => if bt s m = 1 ∧ bAnd (wf m) s = 0 then ordF M wf n (dif s (bShl 1 m)) else 0) hM.1 (fun m z0 z1 => by
        split
        · rename_i z
          have c2 := clr_bits h ⟨z0, by omega⟩ z.1
          exact ordF_bd hM wf n k _ (clr_rg h ⟨z0, by omega⟩) (by omega)
        · exact ⟨by omega, Int.natCast_nonneg _⟩)
      have h3 : M * ((7 ^ k : Nat) : Int) ≤ 7 * ((7 ^ k : Nat) : Int) := Int.mul_le_mul_of_nonneg_right hM.2 (Int.natCast_nonneg _)
      refine ⟨this.1, Int.le_trans this.2 (Int.le_trans h3 ?_)⟩
      rw [Nat.pow_succ]
      omega
section ORD
variable {G : am_G} {d : Nat} {L : am_L} {h h' : am_H} {Q : am_O → am_L → am_H → Prop} {x o s t : Int} {T : Txt} {S : Row} {b q : Int}
def ordR (T : Txt) (S : Row) (a : Int) : Int := ordF (tM T) (wtR T S) 128 a
def ordT (T : Txt) (S : Row) (a m : Int) : Int := if bt a m = 1 ∧ bAnd (wtR T S m) a = 0 then ordR T S (dif a (bShl 1 m)) else 0
theorem ordR_0 : ordR T S 0 = 1 := rfl
theorem ordR_s (hT : TxtI T) {a : Int} (ha : 0 ≤ a ∧ a < 128) (h0 : a ≠ 0) : ordR T S a = sumI (tM T) (ordT T S a) := by
  have hM := hT.1
  show (if a = 0 then 1 else sumI (tM T) _) = _
  rw [if_neg h0]
  refine sumI_congr fun m z0 z1 => ?_
  unfold ordT
  split
  · rename_i z
    have c1 := clr_lt ha ⟨z0, by omega⟩ z.1
    have c2 := clr_rg ha (m := m) ⟨z0, by omega⟩
    exact ordF_le hM.2 _ 127 _ 128 c2 (by omega) (by omega)
  · rfl
theorem ordR_bd (hT : TxtI T) {a : Int} (ha : 0 ≤ a ∧ a < 128) : 0 ≤ ordR T S a ∧ ordR T S a ≤ 823543 := by
  have := ordF_bd hT.1 (wtR T S) 128 7 a ha (bits_bd a).2
  exact ⟨this.1, Int.le_trans this.2 (by decide)⟩
theorem ordT_bd (hT : TxtI T) {a m : Int} (ha : 0 ≤ a ∧ a < 128) (hm : 0 ≤ m ∧ m < 7) : 0 ≤ ordT T S a m ∧ ordT T S a m ≤ 823543 := by
  unfold ordT
  split
  · exact ordR_bd hT (clr_rg ha hm)
  · omega
theorem C_X13_waits {m : Int} (hC : TwT L h o s T S) (hT : TxtI T) (hI : RowI T S b q) (hm : rg32 m) (k : ∀ h', FrW h h' o → Q (.inl [aI (waitsV T S m)]) L h') : am_C G mX13_waits (d + 12) [aR o, aI m] L h Q := by
  have hM := hC.1
  have hL := hM.1
  have hM7 := hT.1
  refine x_start okX13_waits rfl rfl rfl rfl ?_
  refine x_aload_0 dX13_waits_0 ?_
  refine x_iload_1 dX13_waits_1 ?_
  refine x_callV1 dX13_waits_2 rfl okX13_isMan q1927 q1929 qs80 (by first | assumption | (exact MdL.k0 (by assumption))) am_k13 rfl (C_X13_isMan hM hT hm (x_k1 ?_))
  refine x_if_ne (tgt := 10) dX13_waits_5 rfl (by split <;> omega) (fun c5 => ?_) (fun c5 => ?_)
  · have hm1 : 0 ≤ m ∧ m < tM T := by split at c5 <;> omega
    refine x_aload_0 dX13_waits_10 ?_
    refine x_callV0 dX13_waits_11 rfl okX13_copies q1934 q1936 qs81 (by first | assumption | (exact MdL.k0 (by assumption))) am_k13 rfl (C_X13_copiesR hL hC.2 hI hT (fun h1 e1 f1 e2 e3 => (x_k0 ?_)))
    refine x_aload_0 dX13_waits_14 ?_
    refine x_callV0 dX13_waits_15 rfl okX13_fillsWaits q2046 q2048 qs95 (by first | assumption | (exact MdL.k0 (by assumption))) am_k13 rfl (C_X13_fillsWaits (hM.fr f1) hT e2 hI (fun h2 g1 g2 => (x_k1 ?_)))
    refine x_pop dX13_waits_18 rfl ?_
    refine x_aload_0 dX13_waits_19 ?_
    refine x_getR dX13_waits_20 fl1634_13 rfl (by first | (exact MdL.k0 (by assumption)) | (assumption)) (by first | (exact MdL.v_waitsFor (by assumption)) | (assumption)) ?_
    refine x_iload_1 dX13_waits_23 ?_
    refine x_iald_ dX13_waits_24 (by first | (exact MdL.k_waitsFor (by assumption)) | (assumption)) (by first | (exact MdL.x_waitsFor (by assumption) (by omega) (by omega)) | (omega)) (fun r24 => ?_)
    rw [g2 m hm1.1 hm1.2] at r24 ⊢
    refine x_iret dX13_waits_25 rfl ?_
    refine x_q1 ?_ (k h2 (f1.tr fun a i z => by rw [g1 a (by omega)]))
    unfold waitsV
    rw [if_pos hm1]
  · refine x_iconst dX13_waits_8 ?_
    refine x_iret dX13_waits_9 rfl ?_
    refine x_q1 ?_ (k h (FrW.rf h o))
    unfold waitsV
    rw [if_neg (by split at c5 <;> omega)]
theorem FrS.wt {a i v : Int} (ha : (x + 181 ≤ a ∧ a ≤ x + 248) ∨ (x + 250 ≤ a ∧ a < x + 271) ∨ a = x + 273) : FrS h (am_st h a i v) x := fun y j hy => by rw [am_st_o (by omega)]
set_option maxHeartbeats 8000000 in
theorem C_X0_laysWaits (hC : CoT L h x t T S) (hT : TxtI T) (hI : RowI T S b q) (k : ∀ h', FrS h h' x → (∀ m, 0 ≤ m → m < tM T → h' (x + 181) m = wtR T S m) → (∀ a, 0 ≤ a → a < bShl 1 (tM T) → h' (x + 182) a = ordR T S a) → Q (.inl [aI (outR T S)]) L h') : am_C G mX0_laysWaits (d + 432) [aR x] L h Q := by
  have hK := hC.mk
  have hM := hT.1
  have hp := pw_bd hM
  refine x_start okX0_laysWaits rfl rfl rfl rfl ?_
  refine x_iconst dX0_laysWaits_0 ?_
  refine x_istore_1 dX0_laysWaits_1 rfl ?_
  refine x_iconst dX0_laysWaits_2 ?_
  refine x_istore_2 dX0_laysWaits_3 rfl ?_
  skip
  refine x_for (tM T) (fun i hh => FrS h hh x ∧ ∀ m, 0 ≤ m → m < i → hh (x + 181) m = wtR T S m) (fun i hh => am_X G mX0_laysWaits (d + 432) 4 [aR x, aI (bset (outP S) i.toNat), aI i, aU] [] L hh Q) (fun i hh g0 g1 hP ih => ?_) h hM.1 ⟨FrS.rf h x, fun m z0 z1 => by omega⟩
  obtain ⟨p1, p2⟩ := hP
  have bi := (bset_ok (outP S) i.toNat (by omega)).1
  have hC1 := hC.fr p1
  have hcl := hC1.cl
  have ihp : ∀ v h1, i < tM T → v = bset (outP S) (i + 1).toNat → FrS h h1 x ∧ (∀ m, 0 ≤ m → m < i + 1 → h1 (x + 181) m = wtR T S m) → am_X G mX0_laysWaits (d + 432) 4 [aR x, aI v, aI (i + 1), aU] [] L h1 Q := fun v h1 z e y => by rw [e]; exact ih h1 z y
  refine x_iload_2 dX0_laysWaits_4 ?_
  refine x_aload_0 dX0_laysWaits_5 ?_
  refine x_callV0 dX0_laysWaits_6 rfl okX0_men q1196 q1198 qs33 (by first | assumption | (exact MkL.k0 (by assumption))) am_k0 rfl (C_X0_men hC1 (x_k1 ?_))
  refine x_icmp_ge (tgt := 51) dX0_laysWaits_9 rfl (by omega) (by omega) (fun c9 => ?_) (fun c9 => ?_)
  · have hi : i = tM T := by omega
    subst hi
    have bo := (outR_ok (S := S) hT).1
    refine x_iconst dX0_laysWaits_51 ?_
    refine x_istore_2 dX0_laysWaits_52 rfl ?_
    show am_X G mX0_laysWaits (d + 432) 53 [aR x, aI (outR T S), aI 0, aU] [] L hh Q
    refine x_forA (bShl 1 (tM T)) (fun a h1 (w : AV) => FrS h h1 x ∧ (∀ m, 0 ≤ m → m < tM T → h1 (x + 181) m = wtR T S m) ∧ ∀ c, 0 ≤ c → c < a → h1 (x + 182) c = ordR T S c) (fun a h1 w => am_X G mX0_laysWaits (d + 432) 53 [aR x, aI (outR T S), aI a, w] [] L h1 Q) (fun a h1 w y0 y1 hP ih2 => ?_) hh aU (by omega) ⟨p1, p2, fun c z0 z1 => by omega⟩
    obtain ⟨q1, q2, q3⟩ := hP
    have hC2 := hC.fr q1
    refine x_iload_2 dX0_laysWaits_53 ?_
    refine x_iconst dX0_laysWaits_54 ?_
    refine x_aload_0 dX0_laysWaits_55 ?_
    refine x_callV0 dX0_laysWaits_56 rfl okX0_men q1196 q1198 qs33 (by first | assumption | (exact MkL.k0 (by assumption))) am_k0 rfl (C_X0_men hC2 (x_k1 ?_))
    refine x_ishl dX0_laysWaits_59 ?_
    refine x_icmp_ge (tgt := 141) dX0_laysWaits_60 rfl (by omega) (by omega) (fun c60 => ?_) (fun c60 => ?_)
    · refine x_iload_1 dX0_laysWaits_141 ?_
      refine x_iret dX0_laysWaits_142 rfl ?_
      have e : a = bShl 1 (tM T) := by omega
      subst e
      exact k h1 q1 q2 q3
    · refine x_aload_0 dX0_laysWaits_63 ?_
      refine x_getR dX0_laysWaits_64 fl585_0 rfl (by first | (exact MkL.k0 (by assumption)) | (assumption)) (by first | (exact MkL.v_ways (by assumption)) | (assumption)) ?_
      refine x_iload_2 dX0_laysWaits_67 ?_
      refine x_iload_2 dX0_laysWaits_68 ?_
      refine x_if_ne (tgt := 76) dX0_laysWaits_69 rfl (by omega) (fun c69 => ?_) (fun c69 => ?_)
      · refine x_iconst dX0_laysWaits_76 ?_
        refine x_iast_ dX0_laysWaits_77 (by first | (exact MkL.k_ways (by assumption)) | (assumption)) (by first | (exact MkL.x_ways (by assumption) (by omega) (by omega)) | (omega)) (by omega) ?_
        refine x_iconst dX0_laysWaits_78 ?_
        refine x_istore_3 dX0_laysWaits_79 rfl ?_
        have ha : 0 ≤ a ∧ a < 128 := by omega
        have hlt : a < bShl 1 (tM T) := by omega
        refine x_for (tM T) (fun j h2 => FrS h h2 x ∧ (∀ m, 0 ≤ m → m < tM T → h2 (x + 181) m = wtR T S m) ∧ (∀ c, 0 ≤ c → c < a → h2 (x + 182) c = ordR T S c) ∧ h2 (x + 182) a = (if a = 0 then 1 else 0) + sumI j (ordT T S a)) (fun j h2 => am_X G mX0_laysWaits (d + 432) 80 [aR x, aI (outR T S), aI a, aI j] [] L h2 Q) (fun j h2 z0 z1 hP ih3 => ?_) _ hM.1 ⟨q1.tr (FrS.wt (by omega)), fun m z0 z1 => ?_, fun c z0 z1 => ?_, ?_⟩
        · obtain ⟨u1, u2, u3, u4⟩ := hP
          have hC3 := hC.fr u1
          have hbt : bt a j = bAnd (bShr a j) 1 := rfl
          have hsum := sumI_bd (n := j) (b := 823543) (f := ordT T S a) z0 (fun m y2 y3 => ordT_bd hT ha ⟨y2, by omega⟩)
          have hes := sumI_s (ordT T S a) z0
          refine x_iload_3 dX0_laysWaits_80 ?_
          refine x_aload_0 dX0_laysWaits_81 ?_
          refine x_callV0 dX0_laysWaits_82 rfl okX0_men q1196 q1198 qs33 (by first | assumption | (exact MkL.k0 (by assumption))) am_k0 rfl (C_X0_men hC3 (x_k1 ?_))
          refine x_icmp_ge (tgt := 135) dX0_laysWaits_85 rfl (by omega) (by omega) (fun c85 => ?_) (fun c85 => ?_)
          · have hj : j = tM T := by omega
            subst hj
            refine x_iinc2 dX0_laysWaits_135 rfl ?_
            refine x_goto (tgt := 53) dX0_laysWaits_138 rfl ?_
            refine ih2 h2 _ hlt ⟨u1, u2, fun c y2 y3 => ?_⟩
            by_cases e : c = a
            · rw [e, u4]
              by_cases e0 : a = 0
              · subst e0
                rw [if_pos rfl, ordR_0]
                have : sumI (tM T) (ordT T S 0) = sumI (tM T) (fun _ => 0) := sumI_congr fun m y4 y5 => by
                  unfold ordT
                  rw [if_neg (fun z => by have := bt_0 (m := m) ⟨y4, by omega⟩; omega)]
                rw [this]
                have := sumI_bd (n := tM T) (b := 0) (f := fun _ => 0) hM.1 (fun _ _ _ => by omega)
                omega
              · rw [if_neg e0, ordR_s hT ha e0]
                omega
            · exact u3 c y2 (by omega)
          · have hj : j < tM T := by omega
            have bt1 := bt_01 a j
            have tb := ordT_bd (S := S) hT ha (m := j) ⟨z0, by omega⟩
            have wok := (wtR_ok (S := S) hT j).1
            have uj := u2 j z0 hj
            have band := (bAnd_bt wok ha (m := 0) ⟨by decide, by decide⟩).2
            have crg := clr_rg ha (m := j) ⟨z0, by omega⟩
            refine x_iload_2 dX0_laysWaits_88 ?_
            refine x_iload_3 dX0_laysWaits_89 ?_
            refine x_ishr dX0_laysWaits_90 ?_
            refine x_iconst dX0_laysWaits_91 ?_
            refine x_iand dX0_laysWaits_92 ?_
            refine x_iconst dX0_laysWaits_93 ?_
            refine x_icmp_ne (tgt := 129) dX0_laysWaits_94 rfl (by omega) (by omega) (fun c94 => ?_) (fun c94 => ?_)
            · have e : ordT T S a j = 0 := by unfold ordT; rw [if_neg (by omega)]
              refine x_iinc3 dX0_laysWaits_129 rfl ?_
              refine x_goto (tgt := 80) dX0_laysWaits_132 rfl ?_
              exact ih3 h2 hj ⟨u1, u2, u3, by rw [u4]; omega⟩
            · refine x_aload_0 dX0_laysWaits_97 ?_
              refine x_getR dX0_laysWaits_98 fl584_0 rfl (by first | (exact MkL.k0 (by assumption)) | (assumption)) (by first | (exact MkL.v_waitsFor (by assumption)) | (assumption)) ?_
              refine x_iload_3 dX0_laysWaits_101 ?_
              refine x_iald_ dX0_laysWaits_102 (by first | (exact MkL.k_waitsFor (by assumption)) | (assumption)) (by first | (exact MkL.x_waitsFor (by assumption) (by omega) (by omega)) | (omega)) (fun r102 => ?_)
              rw [uj] at r102 ⊢
              refine x_iload_2 dX0_laysWaits_103 ?_
              refine x_iand dX0_laysWaits_104 ?_
              refine x_if_ne (tgt := 129) dX0_laysWaits_105 rfl (by omega) (fun c105 => ?_) (fun c105 => ?_)
              · have e : ordT T S a j = 0 := by unfold ordT; rw [if_neg (by omega)]
                refine x_iinc3 dX0_laysWaits_129 rfl ?_
                refine x_goto (tgt := 80) dX0_laysWaits_132 rfl ?_
                exact ih3 h2 hj ⟨u1, u2, u3, by rw [u4]; omega⟩
              · have hb1 : bt a j = 1 := by omega
                have clt := clr_lt ha (m := j) ⟨z0, by omega⟩ hb1
                have e : ordT T S a j = ordR T S (dif a (bShl 1 j)) := by unfold ordT; rw [if_pos ⟨hb1, by omega⟩]
                have e2 : h2 (x + 182) (bAnd a (bXor (bShl 1 j) (-1))) = ordT T S a j := by rw [e]; exact u3 _ crg.1 clt
                have crg2 : 0 ≤ bAnd a (bXor (bShl 1 j) (-1)) ∧ bAnd a (bXor (bShl 1 j) (-1)) < 128 := crg
                have b9 : (if a = 0 then (1 : Int) else 0) = 0 ∨ (if a = 0 then (1 : Int) else 0) = 1 := by split <;> omega
                refine x_aload_0 dX0_laysWaits_108 ?_
                refine x_getR dX0_laysWaits_109 fl585_0 rfl (by first | (exact MkL.k0 (by assumption)) | (assumption)) (by first | (exact MkL.v_ways (by assumption)) | (assumption)) ?_
                refine x_iload_2 dX0_laysWaits_112 ?_
                refine x_dup2 dX0_laysWaits_113 rfl rfl ?_
                refine x_iald_ dX0_laysWaits_114 (by first | (exact MkL.k_ways (by assumption)) | (assumption)) (by first | (exact MkL.x_ways (by assumption) (by omega) (by omega)) | (omega)) (fun r114 => ?_)
                rw [u4] at r114 ⊢
                refine x_aload_0 dX0_laysWaits_115 ?_
                refine x_getR dX0_laysWaits_116 fl585_0 rfl (by first | (exact MkL.k0 (by assumption)) | (assumption)) (by first | (exact MkL.v_ways (by assumption)) | (assumption)) ?_
                refine x_iload_2 dX0_laysWaits_119 ?_
                refine x_iconst dX0_laysWaits_120 ?_
                refine x_iload_3 dX0_laysWaits_121 ?_
                refine x_ishl dX0_laysWaits_122 ?_
                refine x_iconst dX0_laysWaits_123 ?_
                refine x_ixor dX0_laysWaits_124 ?_
                refine x_iand dX0_laysWaits_125 ?_
                refine x_iald_ dX0_laysWaits_126 (by first | (exact MkL.k_ways (by assumption)) | (assumption)) (by first | (exact MkL.x_ways (by assumption) (by omega) (by omega)) | (omega)) (fun r126 => ?_)
                rw [e2] at r126 ⊢
                refine x_iadd dX0_laysWaits_127 ?_
                refine x_iast_ dX0_laysWaits_128 (by first | (exact MkL.k_ways (by assumption)) | (assumption)) (by first | (exact MkL.x_ways (by assumption) (by omega) (by omega)) | (omega)) (by omega) ?_
                refine x_iinc3 dX0_laysWaits_129 rfl ?_
                refine x_goto (tgt := 80) dX0_laysWaits_132 rfl ?_
                refine ih3 _ hj ⟨u1.tr (FrS.wt (by omega)), fun m y2 y3 => ?_, fun c y2 y3 => ?_, ?_⟩
                · rw [am_st_o (by omega)]
                  exact u2 m y2 y3
                · rw [am_st_i (by omega)]
                  exact u3 c y2 y3
                · rw [am_st_s]
                  omega
        · rw [am_st_o (by omega)]
          exact q2 m z0 z1
        · rw [am_st_i (by omega)]
          exact q3 c z0 z1
        · rw [am_st_s, sumI_0]
          first | (rw [if_pos (by omega)]; rfl) | (rw [if_neg (by omega)]; rfl)
      · refine x_iconst dX0_laysWaits_72 ?_
        refine x_goto (tgt := 77) dX0_laysWaits_73 rfl ?_
        refine x_iast_ dX0_laysWaits_77 (by first | (exact MkL.k_ways (by assumption)) | (assumption)) (by first | (exact MkL.x_ways (by assumption) (by omega) (by omega)) | (omega)) (by omega) ?_
        refine x_iconst dX0_laysWaits_78 ?_
        refine x_istore_3 dX0_laysWaits_79 rfl ?_
        have ha : 0 ≤ a ∧ a < 128 := by omega
        have hlt : a < bShl 1 (tM T) := by omega
        refine x_for (tM T) (fun j h2 => FrS h h2 x ∧ (∀ m, 0 ≤ m → m < tM T → h2 (x + 181) m = wtR T S m) ∧ (∀ c, 0 ≤ c → c < a → h2 (x + 182) c = ordR T S c) ∧ h2 (x + 182) a = (if a = 0 then 1 else 0) + sumI j (ordT T S a)) (fun j h2 => am_X G mX0_laysWaits (d + 432) 80 [aR x, aI (outR T S), aI a, aI j] [] L h2 Q) (fun j h2 z0 z1 hP ih3 => ?_) _ hM.1 ⟨q1.tr (FrS.wt (by omega)), fun m z0 z1 => ?_, fun c z0 z1 => ?_, ?_⟩
        · obtain ⟨u1, u2, u3, u4⟩ := hP
          have hC3 := hC.fr u1
          have hbt : bt a j = bAnd (bShr a j) 1 := rfl
          have hsum := sumI_bd (n := j) (b := 823543) (f := ordT T S a) z0 (fun m y2 y3 => ordT_bd hT ha ⟨y2, by omega⟩)
          have hes := sumI_s (ordT T S a) z0
          refine x_iload_3 dX0_laysWaits_80 ?_
          refine x_aload_0 dX0_laysWaits_81 ?_
          refine x_callV0 dX0_laysWaits_82 rfl okX0_men q1196 q1198 qs33 (by first | assumption | (exact MkL.k0 (by assumption))) am_k0 rfl (C_X0_men hC3 (x_k1 ?_))
          refine x_icmp_ge (tgt := 135) dX0_laysWaits_85 rfl (by omega) (by omega) (fun c85 => ?_) (fun c85 => ?_)
          · have hj : j = tM T := by omega
            subst hj
            refine x_iinc2 dX0_laysWaits_135 rfl ?_
            refine x_goto (tgt := 53) dX0_laysWaits_138 rfl ?_
            refine ih2 h2 _ hlt ⟨u1, u2, fun c y2 y3 => ?_⟩
            by_cases e : c = a
            · rw [e, u4]
              by_cases e0 : a = 0
              · subst e0
                rw [if_pos rfl, ordR_0]
                have : sumI (tM T) (ordT T S 0) = sumI (tM T) (fun _ => 0) := sumI_congr fun m y4 y5 => by
                  unfold ordT
                  rw [if_neg (fun z => by have := bt_0 (m := m) ⟨y4, by omega⟩; omega)]
                rw [this]
                have := sumI_bd (n := tM T) (b := 0) (f := fun _ => 0) hM.1 (fun _ _ _ => by omega)
                omega
              · rw [if_neg e0, ordR_s hT ha e0]
                omega
            · exact u3 c y2 (by omega)
          · have hj : j < tM T := by omega
            have bt1 := bt_01 a j
            have tb := ordT_bd (S := S) hT ha (m := j) ⟨z0, by omega⟩
            have wok := (wtR_ok (S := S) hT j).1
            have uj := u2 j z0 hj
            have band := (bAnd_bt wok ha (m := 0) ⟨by decide, by decide⟩).2
            have crg := clr_rg ha (m := j) ⟨z0, by omega⟩
            refine x_iload_2 dX0_laysWaits_88 ?_
            refine x_iload_3 dX0_laysWaits_89 ?_
            refine x_ishr dX0_laysWaits_90 ?_
            refine x_iconst dX0_laysWaits_91 ?_
            refine x_iand dX0_laysWaits_92 ?_
            refine x_iconst dX0_laysWaits_93 ?_
            refine x_icmp_ne (tgt := 129) dX0_laysWaits_94 rfl (by omega) (by omega) (fun c94 => ?_) (fun c94 => ?_)
            · have e : ordT T S a j = 0 := by unfold ordT; rw [if_neg (by omega)]
              refine x_iinc3 dX0_laysWaits_129 rfl ?_
              refine x_goto (tgt := 80) dX0_laysWaits_132 rfl ?_
              exact ih3 h2 hj ⟨u1, u2, u3, by rw [u4]; omega⟩
            · refine x_aload_0 dX0_laysWaits_97 ?_
              refine x_getR dX0_laysWaits_98 fl584_0 rfl (by first | (exact MkL.k0 (by assumption)) | (assumption)) (by first | (exact MkL.v_waitsFor (by assumption)) | (assumption)) ?_
              refine x_iload_3 dX0_laysWaits_101 ?_
              refine x_iald_ dX0_laysWaits_102 (by first | (exact MkL.k_waitsFor (by assumption)) | (assumption)) (by first | (exact MkL.x_waitsFor (by assumption) (by omega) (by omega)) | (omega)) (fun r102 => ?_)
              rw [uj] at r102 ⊢
              refine x_iload_2 dX0_laysWaits_103 ?_
              refine x_iand dX0_laysWaits_104 ?_
              refine x_if_ne (tgt := 129) dX0_laysWaits_105 rfl (by omega) (fun c105 => ?_) (fun c105 => ?_)
              · have e : ordT T S a j = 0 := by unfold ordT; rw [if_neg (by omega)]
                refine x_iinc3 dX0_laysWaits_129 rfl ?_
                refine x_goto (tgt := 80) dX0_laysWaits_132 rfl ?_
                exact ih3 h2 hj ⟨u1, u2, u3, by rw [u4]; omega⟩
              · have hb1 : bt a j = 1 := by omega
                have clt := clr_lt ha (m := j) ⟨z0, by omega⟩ hb1
                have e : ordT T S a j = ordR T S (dif a (bShl 1 j)) := by unfold ordT; rw [if_pos ⟨hb1, by omega⟩]
                have e2 : h2 (x + 182) (bAnd a (bXor (bShl 1 j) (-1))) = ordT T S a j := by rw [e]; exact u3 _ crg.1 clt
                have crg2 : 0 ≤ bAnd a (bXor (bShl 1 j) (-1)) ∧ bAnd a (bXor (bShl 1 j) (-1)) < 128 := crg
                have b9 : (if a = 0 then (1 : Int) else 0) = 0 ∨ (if a = 0 then (1 : Int) else 0) = 1 := by split <;> omega
                refine x_aload_0 dX0_laysWaits_108 ?_
                refine x_getR dX0_laysWaits_109 fl585_0 rfl (by first | (exact MkL.k0 (by assumption)) | (assumption)) (by first | (exact MkL.v_ways (by assumption)) | (assumption)) ?_
                refine x_iload_2 dX0_laysWaits_112 ?_
                refine x_dup2 dX0_laysWaits_113 rfl rfl ?_
                refine x_iald_ dX0_laysWaits_114 (by first | (exact MkL.k_ways (by assumption)) | (assumption)) (by first | (exact MkL.x_ways (by assumption) (by omega) (by omega)) | (omega)) (fun r114 => ?_)
                rw [u4] at r114 ⊢
                refine x_aload_0 dX0_laysWaits_115 ?_
                refine x_getR dX0_laysWaits_116 fl585_0 rfl (by first | (exact MkL.k0 (by assumption)) | (assumption)) (by first | (exact MkL.v_ways (by assumption)) | (assumption)) ?_
                refine x_iload_2 dX0_laysWaits_119 ?_
                refine x_iconst dX0_laysWaits_120 ?_
                refine x_iload_3 dX0_laysWaits_121 ?_
                refine x_ishl dX0_laysWaits_122 ?_
                refine x_iconst dX0_laysWaits_123 ?_
                refine x_ixor dX0_laysWaits_124 ?_
                refine x_iand dX0_laysWaits_125 ?_
                refine x_iald_ dX0_laysWaits_126 (by first | (exact MkL.k_ways (by assumption)) | (assumption)) (by first | (exact MkL.x_ways (by assumption) (by omega) (by omega)) | (omega)) (fun r126 => ?_)
                rw [e2] at r126 ⊢
                refine x_iadd dX0_laysWaits_127 ?_
                refine x_iast_ dX0_laysWaits_128 (by first | (exact MkL.k_ways (by assumption)) | (assumption)) (by first | (exact MkL.x_ways (by assumption) (by omega) (by omega)) | (omega)) (by omega) ?_
                refine x_iinc3 dX0_laysWaits_129 rfl ?_
                refine x_goto (tgt := 80) dX0_laysWaits_132 rfl ?_
                refine ih3 _ hj ⟨u1.tr (FrS.wt (by omega)), fun m y2 y3 => ?_, fun c y2 y3 => ?_, ?_⟩
                · rw [am_st_o (by omega)]
                  exact u2 m y2 y3
                · rw [am_st_i (by omega)]
                  exact u3 c y2 y3
                · rw [am_st_s]
                  omega
        · rw [am_st_o (by omega)]
          exact q2 m z0 z1
        · rw [am_st_i (by omega)]
          exact q3 c z0 z1
        · rw [am_st_s, sumI_0]
          first | (rw [if_pos (by omega)]; rfl) | (rw [if_neg (by omega)]; rfl)
  · have hi : i < tM T := by omega
    have en := hC1.rc.2.1 i g0 (by omega)
    have wok := (wtR_ok (S := S) hT i).1
    have wV : waitsV T S i = wtR T S i := if_pos ⟨g0, hi⟩
    refine x_aload_0 dX0_laysWaits_12 ?_
    refine x_getR dX0_laysWaits_13 fl584_0 rfl (by first | (exact MkL.k0 (by assumption)) | (assumption)) (by first | (exact MkL.v_waitsFor (by assumption)) | (assumption)) ?_
    refine x_iload_2 dX0_laysWaits_16 ?_
    refine x_aload_0 dX0_laysWaits_17 ?_
    refine x_iload_2 dX0_laysWaits_18 ?_
    refine x_callV1 dX0_laysWaits_19 rfl okX0_waits q1327 q1316 q1317 (by first | assumption | (exact MkL.k0 (by assumption))) am_k0 rfl (C_X0_waits hC1 hT hI ⟨by omega, by omega⟩ (x_k1 ?_))
    rw [wV]
    refine x_iast_ dX0_laysWaits_22 (by first | (exact MkL.k_waitsFor (by assumption)) | (assumption)) (by first | (exact MkL.x_waitsFor (by assumption) (by omega) (by omega)) | (omega)) (by omega) ?_
    refine x_iload_1 dX0_laysWaits_23 ?_
    refine x_aload_0 dX0_laysWaits_24 ?_
    refine x_getR dX0_laysWaits_25 fl578_0 rfl (by first | (exact MkL.k0 (by assumption)) | (assumption)) (by first | (exact MkL.v_cloth (by assumption)) | (assumption)) ?_
    refine x_getR dX0_laysWaits_28 fl438_5 rfl (by first | (exact ClL.k0 (by assumption)) | (assumption)) (by first | (exact ClL.f2 (by assumption)) | (assumption)) ?_
    refine x_iload_2 dX0_laysWaits_31 ?_
    refine x_iald_ dX0_laysWaits_32 (by first | (exact ClL.k3 (by assumption)) | (assumption)) (by first | (exact ClL.r3 (by assumption) (by omega) (by omega)) | (omega)) (fun r32 => ?_)
    simp (disch := omega) only [am_st_o, en] at r32 ⊢
    refine x_if_le (tgt := 42) dX0_laysWaits_33 rfl (by omega) (fun c33 => ?_) (fun c33 => ?_)
    · refine x_iconst dX0_laysWaits_42 ?_
      refine x_ior dX0_laysWaits_43 ?_
      refine x_istore_1 dX0_laysWaits_44 rfl ?_
      refine x_iinc2 dX0_laysWaits_45 rfl ?_
      refine x_goto (tgt := 4) dX0_laysWaits_48 rfl ?_
      refine ihp _ _ hi ?_ ⟨p1.tr (FrS.wt (by omega)), fun m z0 z1 => ?_⟩
      · rw [bset_s _ g0]
        first | (rw [if_pos (show outP S i = true from decide_eq_true (by omega))]; done) | (rw [if_neg (show ¬ outP S i = true from fun z => absurd (of_decide_eq_true z) (by omega)), bOr_0 ⟨by omega, by omega⟩]; done)
      · rw [am_st_at]
        by_cases e : m = i
        · rw [if_pos ⟨rfl, e⟩, e]
        · rw [if_neg (by omega)]
          exact p2 m z0 (by omega)
    · refine x_iconst dX0_laysWaits_36 ?_
      refine x_iload_2 dX0_laysWaits_37 ?_
      refine x_ishl dX0_laysWaits_38 ?_
      refine x_goto (tgt := 43) dX0_laysWaits_39 rfl ?_
      refine x_ior dX0_laysWaits_43 ?_
      refine x_istore_1 dX0_laysWaits_44 rfl ?_
      refine x_iinc2 dX0_laysWaits_45 rfl ?_
      refine x_goto (tgt := 4) dX0_laysWaits_48 rfl ?_
      refine ihp _ _ hi ?_ ⟨p1.tr (FrS.wt (by omega)), fun m z0 z1 => ?_⟩
      · rw [bset_s _ g0]
        first | (rw [if_pos (show outP S i = true from decide_eq_true (by omega))]; done) | (rw [if_neg (show ¬ outP S i = true from fun z => absurd (of_decide_eq_true z) (by omega)), bOr_0 ⟨by omega, by omega⟩]; done)
      · rw [am_st_at]
        by_cases e : m = i
        · rw [if_pos ⟨rfl, e⟩, e]
        · rw [if_neg (by omega)]
          exact p2 m z0 (by omega)
end ORD
