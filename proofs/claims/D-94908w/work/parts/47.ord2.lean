/-! ORDERS: fillsOrders, orders, orderAt -/
set_option maxRecDepth 100000
section ORD2
variable {G : am_G} {d : Nat} {L : am_L} {h h' : am_H} {Q : am_O → am_L → am_H → Prop} {x o s t : Int} {T : Txt} {S : Row} {b q : Int}
set_option maxHeartbeats 8000000 in
theorem C_X13_fillsOrders (hM : MdT L h o s T) (hT : TxtI T) (hw : ∀ m, 0 ≤ m → m < tM T → h (o + 41) m = wtR T S m) (k : ∀ h', (∀ a, a ≠ (o + 42) → h' a = h a) → (∀ a, 0 ≤ a → a < 128 → h' (o + 42) a = ordR T S a) → Q (.inl []) L h') : am_C G mX13_fillsOrders (d + 1) [aR o] L h Q := by
  obtain ⟨hL, hs, hlv, hmen, -⟩ := hM
  have hM7 := hT.1
  refine x_start okX13_fillsOrders rfl rfl rfl rfl ?_
  refine x_aload_0 dX13_fillsOrders_0 ?_
  refine x_getR dX13_fillsOrders_1 fl1635_13 rfl (by first | (exact MdL.k0 (by assumption)) | (assumption)) (by first | (exact MdL.v_ordersOf (by assumption)) | (assumption)) ?_
  refine x_iconst dX13_fillsOrders_4 ?_
  refine x_iconst dX13_fillsOrders_5 ?_
  refine x_iast_ dX13_fillsOrders_6 (by first | (exact MdL.k_ordersOf (by assumption)) | (assumption)) (by first | (exact MdL.x_ordersOf (by assumption) (by omega) (by omega)) | (omega)) (by omega) ?_
  refine x_iconst dX13_fillsOrders_7 ?_
  refine x_istore_1 dX13_fillsOrders_8 rfl ?_
  skip
  suffices H : ∀ a h1 (w : AV), 1 ≤ a → a ≤ 128 → (∀ y, y ≠ (o + 42) → h1 y = h y) ∧ (∀ c, 0 ≤ c → c < a → h1 (o + 42) c = ordR T S c) → am_X G mX13_fillsOrders (d + 1) 9 [aR o, aI a, w] [] L h1 Q by
    refine H 1 _ _ (by omega) (by omega) ⟨fun y hy => am_st_o hy, fun c z0 z1 => ?_⟩
    rw [show c = 0 by omega, am_st_s, ordR_0]
  refine x_up2 128 (fun a h1 (w : AV) => 1 ≤ a → a ≤ 128 → (∀ y, y ≠ (o + 42) → h1 y = h y) ∧ (∀ c, 0 ≤ c → c < a → h1 (o + 42) c = ordR T S c) → am_X G mX13_fillsOrders (d + 1) 9 [aR o, aI a, w] [] L h1 Q) (fun a h1 w ih2 y0 y1 hP => ?_)
  obtain ⟨q1, q3⟩ := hP
  refine x_iload_1 dX13_fillsOrders_9 ?_
  refine x_sipush dX13_fillsOrders_10 rfl ?_
  refine x_icmp_ge (tgt := 91) dX13_fillsOrders_13 rfl (by omega) (by omega) (fun c13 => ?_) (fun c13 => ?_)
  · refine x_ret dX13_fillsOrders_91 rfl ?_
    have e : a = 128 := by omega
    subst e
    exact k h1 q1 q3
  · refine x_aload_0 dX13_fillsOrders_16 ?_
    refine x_getR dX13_fillsOrders_17 fl1635_13 rfl (by first | (exact MdL.k0 (by assumption)) | (assumption)) (by first | (exact MdL.v_ordersOf (by assumption)) | (assumption)) ?_
    refine x_iload_1 dX13_fillsOrders_20 ?_
    refine x_iconst dX13_fillsOrders_21 ?_
    refine x_iast_ dX13_fillsOrders_22 (by first | (exact MdL.k_ordersOf (by assumption)) | (assumption)) (by first | (exact MdL.x_ordersOf (by assumption) (by omega) (by omega)) | (omega)) (by omega) ?_
    refine x_iconst dX13_fillsOrders_23 ?_
    refine x_istore_2 dX13_fillsOrders_24 rfl ?_
    have ha : 0 ≤ a ∧ a < 128 := by omega
    refine x_for (tM T) (fun j h2 => (∀ y, y ≠ (o + 42) → h2 y = h y) ∧ (∀ c, 0 ≤ c → c < a → h2 (o + 42) c = ordR T S c) ∧ h2 (o + 42) a = sumI j (ordT T S a)) (fun j h2 => am_X G mX13_fillsOrders (d + 1) 25 [aR o, aI a, aI j] [] L h2 Q) (fun j h2 z0 z1 hP ih3 => ?_) _ hM7.1 ⟨fun y hy => by rw [am_st_o hy]; exact q1 y hy, fun c z0 z1 => by rw [am_st_i (by omega)]; exact q3 c z0 z1, by rw [am_st_s, sumI_0]⟩
    obtain ⟨u1, u3, u4⟩ := hP
    have hbt : bt a j = bAnd (bShr a j) 1 := rfl
    have hsum := sumI_bd (n := j) (b := 823543) (f := ordT T S a) z0 (fun m y2 y3 => ordT_bd hT ha ⟨y2, by omega⟩)
    have hes := sumI_s (ordT T S a) z0
    have hlv2 : h2 o 18 = s := by rw [u1 o (by omega)]; exact hlv
    have hmen2 : h2 (o + 11) s = tM T := by rw [u1 _ (by omega)]; exact hmen
    refine x_iload_2 dX13_fillsOrders_25 ?_
    refine x_aload_0 dX13_fillsOrders_26 ?_
    refine x_getR dX13_fillsOrders_27 fl1598_13 rfl (by first | (exact MdL.k0 (by assumption)) | (assumption)) (by first | (exact MdL.v_men (by assumption)) | (assumption)) ?_
    refine x_aload_0 dX13_fillsOrders_30 ?_
    refine x_getI_ dX13_fillsOrders_31 fl1592_13 (by first | (exact MdL.k0 (by assumption)) | (assumption)) (fun r31 => ?_)
    rw [hlv2] at r31 ⊢
    refine x_iald_ dX13_fillsOrders_34 (by first | (exact MdL.k_men (by assumption)) | (assumption)) (by first | (exact MdL.x_men (by assumption) (by omega) (by omega)) | (omega)) (fun r34 => ?_)
    rw [hmen2] at r34 ⊢
    refine x_icmp_ge (tgt := 85) dX13_fillsOrders_35 rfl (by omega) (by omega) (fun c35 => ?_) (fun c35 => ?_)
    · have hj : j = tM T := by omega
      subst hj
      refine x_iinc1 dX13_fillsOrders_85 rfl ?_
      refine x_goto (tgt := 9) dX13_fillsOrders_88 rfl ?_
      refine ih2 (by omega) h2 _ (by omega) (by omega) ⟨u1, fun c y2 y3 => ?_⟩
      by_cases e : c = a
      · rw [e, u4, ordR_s hT ha (by omega)]
      · exact u3 c y2 (by omega)
    · have hj : j < tM T := by omega
      have bt1 := bt_01 a j
      have tb := ordT_bd (S := S) hT ha (m := j) ⟨z0, by omega⟩
      have wok := (wtR_ok (S := S) hT j).1
      have uj : h2 (o + 41) j = wtR T S j := by rw [u1 _ (by omega)]; exact hw j z0 hj
      have band := (bAnd_bt wok ha (m := 0) ⟨by decide, by decide⟩).2
      have crg := clr_rg ha (m := j) ⟨z0, by omega⟩
      refine x_iload_1 dX13_fillsOrders_38 ?_
      refine x_iload_2 dX13_fillsOrders_39 ?_
      refine x_ishr dX13_fillsOrders_40 ?_
      refine x_iconst dX13_fillsOrders_41 ?_
      refine x_iand dX13_fillsOrders_42 ?_
      refine x_iconst dX13_fillsOrders_43 ?_
      refine x_icmp_ne (tgt := 79) dX13_fillsOrders_44 rfl (by omega) (by omega) (fun c44 => ?_) (fun c44 => ?_)
      · have e : ordT T S a j = 0 := by unfold ordT; rw [if_neg (by omega)]
        refine x_iinc2 dX13_fillsOrders_79 rfl ?_
        refine x_goto (tgt := 25) dX13_fillsOrders_82 rfl ?_
        exact ih3 h2 hj ⟨u1, u3, by rw [u4]; omega⟩
      · refine x_aload_0 dX13_fillsOrders_47 ?_
        refine x_getR dX13_fillsOrders_48 fl1634_13 rfl (by first | (exact MdL.k0 (by assumption)) | (assumption)) (by first | (exact MdL.v_waitsFor (by assumption)) | (assumption)) ?_
        refine x_iload_2 dX13_fillsOrders_51 ?_
        refine x_iald_ dX13_fillsOrders_52 (by first | (exact MdL.k_waitsFor (by assumption)) | (assumption)) (by first | (exact MdL.x_waitsFor (by assumption) (by omega) (by omega)) | (omega)) (fun r52 => ?_)
        rw [uj] at r52 ⊢
        refine x_iload_1 dX13_fillsOrders_53 ?_
        refine x_iand dX13_fillsOrders_54 ?_
        refine x_if_ne (tgt := 79) dX13_fillsOrders_55 rfl (by omega) (fun c55 => ?_) (fun c55 => ?_)
        · have e : ordT T S a j = 0 := by unfold ordT; rw [if_neg (by omega)]
          refine x_iinc2 dX13_fillsOrders_79 rfl ?_
          refine x_goto (tgt := 25) dX13_fillsOrders_82 rfl ?_
          exact ih3 h2 hj ⟨u1, u3, by rw [u4]; omega⟩
        · have hb1 : bt a j = 1 := by omega
          have clt := clr_lt ha (m := j) ⟨z0, by omega⟩ hb1
          have e : ordT T S a j = ordR T S (dif a (bShl 1 j)) := by unfold ordT; rw [if_pos ⟨hb1, by omega⟩]
          have e2 : h2 (o + 42) (bAnd a (bXor (bShl 1 j) (-1))) = ordT T S a j := by rw [e]; exact u3 _ crg.1 clt
          have crg2 : 0 ≤ bAnd a (bXor (bShl 1 j) (-1)) ∧ bAnd a (bXor (bShl 1 j) (-1)) < 128 := crg
          refine x_aload_0 dX13_fillsOrders_58 ?_
          refine x_getR dX13_fillsOrders_59 fl1635_13 rfl (by first | (exact MdL.k0 (by assumption)) | (assumption)) (by first | (exact MdL.v_ordersOf (by assumption)) | (assumption)) ?_
          refine x_iload_1 dX13_fillsOrders_62 ?_
          refine x_dup2 dX13_fillsOrders_63 rfl rfl ?_
          refine x_iald_ dX13_fillsOrders_64 (by first | (exact MdL.k_ordersOf (by assumption)) | (assumption)) (by first | (exact MdL.x_ordersOf (by assumption) (by omega) (by omega)) | (omega)) (fun r64 => ?_)
          rw [u4] at r64 ⊢
          refine x_aload_0 dX13_fillsOrders_65 ?_
          refine x_getR dX13_fillsOrders_66 fl1635_13 rfl (by first | (exact MdL.k0 (by assumption)) | (assumption)) (by first | (exact MdL.v_ordersOf (by assumption)) | (assumption)) ?_
          refine x_iload_1 dX13_fillsOrders_69 ?_
          refine x_iconst dX13_fillsOrders_70 ?_
          refine x_iload_2 dX13_fillsOrders_71 ?_
          refine x_ishl dX13_fillsOrders_72 ?_
          refine x_iconst dX13_fillsOrders_73 ?_
          refine x_ixor dX13_fillsOrders_74 ?_
          refine x_iand dX13_fillsOrders_75 ?_
          refine x_iald_ dX13_fillsOrders_76 (by first | (exact MdL.k_ordersOf (by assumption)) | (assumption)) (by first | (exact MdL.x_ordersOf (by assumption) (by omega) (by omega)) | (omega)) (fun r76 => ?_)
          rw [e2] at r76 ⊢
          refine x_iadd dX13_fillsOrders_77 ?_
          refine x_iast_ dX13_fillsOrders_78 (by first | (exact MdL.k_ordersOf (by assumption)) | (assumption)) (by first | (exact MdL.x_ordersOf (by assumption) (by omega) (by omega)) | (omega)) (by omega) ?_
          refine x_iinc2 dX13_fillsOrders_79 rfl ?_
          refine x_goto (tgt := 25) dX13_fillsOrders_82 rfl ?_
          refine ih3 _ hj ⟨fun y hy => by rw [am_st_o hy]; exact u1 y hy, fun c y2 y3 => ?_, ?_⟩
          · rw [am_st_i (by omega)]
            exact u3 c y2 y3
          · rw [am_st_s]
            omega
def ordersV (T : Txt) (S : Row) : Int := ordR T S (outR T S)
theorem outR_lt (hT : TxtI T) : outR T S < bShl 1 (tM T) := by
  have := outR_ok (S := S) hT
  refine pw_lt hT.1 this.1 (fun m z0 z1 => ?_)
  rw [this.2 m (by have := hT.1; omega) z1, if_neg (by omega)]
theorem C_X0_orders (hC : CoT L h x t T S) (hT : TxtI T) (hI : RowI T S b q) (k : ∀ h', FrS h h' x → Q (.inl [aI (ordersV T S)]) L h') : am_C G mX0_orders (d + 440) [aR x] L h Q := by
  have hK := hC.mk
  have hM := hT.1
  have bo := (outR_ok (S := S) hT).1
  refine x_start okX0_orders rfl rfl rfl rfl ?_
  refine x_aload_0 dX0_orders_0 ?_
  refine x_getR dX0_orders_1 fl585_0 rfl (by first | (exact MkL.k0 (by assumption)) | (assumption)) (by first | (exact MkL.v_ways (by assumption)) | (assumption)) ?_
  refine x_aload_0 dX0_orders_4 ?_
  refine x_callV0 dX0_orders_5 rfl okX0_laysWaits q1323 q1325 qs36 (by first | assumption | (exact MkL.k0 (by assumption))) am_k0 rfl (C_X0_laysWaits (d := d + 7) hC hT hI (fun h1 e1 e2 e3 => (x_k1 ?_)))
  refine x_iald_ dX0_orders_8 (by first | (exact MkL.k_ways (by assumption)) | (assumption)) (by first | (exact MkL.x_ways (by assumption) (by omega) (by omega)) | (omega)) (fun r8 => ?_)
  rw [e3 _ bo.1 (outR_lt hT)] at r8 ⊢
  refine x_iret dX0_orders_9 rfl ?_
  exact k h1 e1
theorem C_X13_orders (hC : TwT L h o s T S) (hT : TxtI T) (hI : RowI T S b q) (k : ∀ h', FrW h h' o → Q (.inl [aI (ordersV T S)]) L h') : am_C G mX13_orders (d + 12) [aR o] L h Q := by
  have hM := hC.1
  have hL := hM.1
  have hM7 := hT.1
  have bo := (outR_ok (S := S) hT).1
  refine x_start okX13_orders rfl rfl rfl rfl ?_
  refine x_aload_0 dX13_orders_0 ?_
  refine x_callV0 dX13_orders_1 rfl okX13_copies q1934 q1936 qs81 (by first | assumption | (exact MdL.k0 (by assumption))) am_k13 rfl (C_X13_copiesR hL hC.2 hI hT (fun h1 e1 f1 e2 e3 => (x_k0 ?_)))
  refine x_aload_0 dX13_orders_4 ?_
  refine x_callV0 dX13_orders_5 rfl okX13_fillsWaits q2046 q2048 qs95 (by first | assumption | (exact MdL.k0 (by assumption))) am_k13 rfl (C_X13_fillsWaits (hM.fr f1) hT e2 hI (fun h2 g1 g2 => (x_k1 ?_)))
  have f2 : FrW h h2 o := f1.tr fun a i z => by rw [g1 a (by omega)]
  refine x_istore_1 dX13_orders_8 rfl ?_
  refine x_aload_0 dX13_orders_9 ?_
  refine x_callV0 dX13_orders_10 rfl okX13_fillsOrders q2054 q2056 qs96 (by first | assumption | (exact MdL.k0 (by assumption))) am_k13 rfl (C_X13_fillsOrders (S := S) (hM.fr f2) hT g2 (fun h3 g3 g4 => (x_k0 ?_)))
  refine x_aload_0 dX13_orders_13 ?_
  refine x_getR dX13_orders_14 fl1635_13 rfl (by first | (exact MdL.k0 (by assumption)) | (assumption)) (by first | (exact MdL.v_ordersOf (by assumption)) | (assumption)) ?_
  refine x_iload_1 dX13_orders_17 ?_
  refine x_iald_ dX13_orders_18 (by first | (exact MdL.k_ordersOf (by assumption)) | (assumption)) (by first | (exact MdL.x_ordersOf (by assumption) (by omega) (by omega)) | (omega)) (fun r18 => ?_)
  rw [g4 _ bo.1 bo.2] at r18 ⊢
  refine x_iret dX13_orders_19 rfl ?_
  exact k h3 (f2.tr fun a i z => by rw [g3 a (by omega)])
/-- the first m from m on of which p holds -/
def firstM (p : Int → Bool) : Nat → Int → Int
  | 0, m => m
  | n + 1, m => if p m then m else firstM p n (m + 1)
theorem firstM_ok (p : Int → Bool) : ∀ (n : Nat) (m : Int), (∃ e, m ≤ e ∧ e < m + n ∧ p e = true) → (m ≤ firstM p n m ∧ firstM p n m < m + n) ∧ p (firstM p n m) = true ∧ ∀ e, m ≤ e → e < firstM p n m → ¬ p e = true
  | 0, m, ⟨e, h1, h2, h3⟩ => by omega
  | n + 1, m, ⟨e, h1, h2, h3⟩ => by
    unfold firstM
    by_cases c : p m = true
    · rw [if_pos c]
      exact ⟨by omega, c, fun e z0 z1 => by omega⟩
    · rw [if_neg c]
      have hne : e ≠ m := fun z => c (by rw [← z]; exact h3)
      obtain ⟨a1, a2, a3⟩ := firstM_ok p n (m + 1) ⟨e, by omega, by omega, h3⟩
      refine ⟨by omega, a2, fun y z0 z1 => ?_⟩
      by_cases z : y = m
      · rw [z]
        exact c
      · exact a3 y (by omega) z1
/-- who may go home next -/
def nxP (T : Txt) (S : Row) (a : Int) : Int → Bool := fun m => decide (bt a m ≠ 0 ∧ bAnd (wtR T S m) a = 0 ∧ ordR T S (dif a (bShl 1 m)) ≠ 0)
def nx1 (T : Txt) (S : Row) (a : Int) : Int := firstM (nxP T S a) 7 0
def ordAt (T : Txt) (S : Row) (i : Int) : Nat → Int → Int → Int
  | 0, _, _ => -1
  | f + 1, a, n => if a = 0 then -1 else if n = i then nx1 T S a else ordAt T S i f (dif a (bShl 1 (nx1 T S a))) (n + 1)
def orderAtV (T : Txt) (S : Row) (i : Int) : Int := if i < 0 then -1 else if ordR T S (outR T S) = 0 then -2 else ordAt T S i 8 (outR T S) 0
theorem nx1_ok (hT : TxtI T) {a : Int} (ha : 0 ≤ a ∧ a < 128) (h0 : a ≠ 0) (hr : ordR T S a ≠ 0) (hs : ∀ m, tM T ≤ m → m < 7 → bt a m = 0) : (0 ≤ nx1 T S a ∧ nx1 T S a < tM T) ∧ nxP T S a (nx1 T S a) = true ∧ ∀ e, 0 ≤ e → e < nx1 T S a → ¬ nxP T S a e = true := by
  have hM := hT.1
  have hex : ∃ e, 0 ≤ e ∧ e < tM T ∧ nxP T S a e = true := by
    apply Classical.byContradiction
    intro hn
    apply hr
    rw [ordR_s hT ha h0]
    have e : sumI (tM T) (ordT T S a) = sumI (tM T) (fun _ => 0) := sumI_congr fun m y4 y5 => by
      unfold ordT
      split
      · rename_i z
        apply Classical.byContradiction
        intro hz
        exact hn ⟨m, y4, y5, decide_eq_true ⟨by omega, z.2, hz⟩⟩
      · rfl
    rw [e]
    have := sumI_bd (n := tM T) (b := 0) (f := fun _ => 0) hM.1 (fun _ _ _ => by omega)
    omega
  obtain ⟨e, e1, e2, e3⟩ := hex
  obtain ⟨a1, a2, a3⟩ := firstM_ok (nxP T S a) 7 0 ⟨e, e1, by omega, e3⟩
  refine ⟨⟨a1.1, ?_⟩, a2, a3⟩
  apply Classical.byContradiction
  intro z
  have := (of_decide_eq_true a2).1
  exact this (hs _ (by show tM T ≤ firstM _ _ _; unfold nx1 at z; omega) (by omega))
theorem nxP_t {a m : Int} (h1 : bt a m ≠ 0) (h2 : bAnd (wtR T S m) a = 0) (h3 : ordR T S (dif a (bShl 1 m)) ≠ 0) : nxP T S a m = true := decide_eq_true ⟨h1, h2, h3⟩
theorem nxP_f {a m : Int} (h : ¬ (bt a m ≠ 0 ∧ bAnd (wtR T S m) a = 0 ∧ ordR T S (dif a (bShl 1 m)) ≠ 0)) : ¬ nxP T S a m = true := fun z => h (of_decide_eq_true z)
end ORD2
