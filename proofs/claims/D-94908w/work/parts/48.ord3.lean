/-! ORDERS: orderAt -/
set_option maxRecDepth 100000
section ORD3
variable {G : am_G} {d : Nat} {L : am_L} {h h' : am_H} {Q : am_O → am_L → am_H → Prop} {x o s t : Int} {T : Txt} {S : Row} {b q : Int}
set_option maxHeartbeats 8000000 in
theorem orderAt_X0 {i : Int} {h1 : am_H} (hK : MkL L x) (hT : TxtI T) (hi : rg32 i) (q2 : ∀ m, 0 ≤ m → m < tM T → h1 (x + 181) m = wtR T S m) (q3 : ∀ a, 0 ≤ a → a < bShl 1 (tM T) → h1 (x + 182) a = ordR T S a) : ∀ (f : Nat) (a n : Int) (w4 : AV), (0 ≤ a ∧ a < 128) → bits a < f → ordR T S a ≠ 0 → (∀ m, tM T ≤ m → m < 7 → bt a m = 0) → (0 ≤ n ∧ n + bits a ≤ 7) → (kk : Q (.inl [aI (ordAt T S i f a n)]) L h1) → am_X G mX0_orderAt (d + 440) 25 [aR x, aI i, aI a, aI n, w4] [] L h1 Q := by
  have hM := hT.1
  intro f
  induction f with
  | zero =>
    intro a n w4 h1 h2
    have := bits_bd a
    omega
  | succ f ih =>
    intro a n w4 ha hbits hr hs hn kk
    have bb := bits_bd a
    unfold ordAt at kk
    refine x_iload_2 dX0_orderAt_25 ?_
    refine x_if_eq (tgt := 98) dX0_orderAt_26 rfl (by omega) (fun c26 => ?_) (fun c26 => ?_)
    · rw [if_pos (by omega)] at kk
      refine x_iconst dX0_orderAt_98 ?_
      refine x_iret dX0_orderAt_99 rfl ?_
      exact kk
    · refine x_iconst dX0_orderAt_29 ?_
      refine x_istore4 dX0_orderAt_30 rfl ?_
      have h0 : a ≠ 0 := by omega
      rw [if_neg h0] at kk
      obtain ⟨e1, e2, e3⟩ := nx1_ok hT ha h0 hr hs
      have e20 := of_decide_eq_true e2
      have eb := bt_01 a (nx1 T S a)
      have ec := clr_rg ha (m := nx1 T S a) ⟨e1.1, by omega⟩
      have el := clr_bits ha (m := nx1 T S a) ⟨e1.1, by omega⟩ (by omega)
      have ebd := bits_bd (dif a (bShl 1 (nx1 T S a)))
      suffices H2 : ∀ m, 0 ≤ m → m ≤ nx1 T S a → am_X G mX0_orderAt (d + 440) 32 [aR x, aI i, aI a, aI n, aI m] [] L h1 Q from H2 0 (by omega) e1.1
      refine x_up0 (nx1 T S a) (fun m => 0 ≤ m → m ≤ nx1 T S a → am_X G mX0_orderAt (d + 440) 32 [aR x, aI i, aI a, aI n, aI m] [] L h1 Q) (fun m ih2 z0 z1 => ?_)
      have hbt : bt a m = bAnd (bShr a m) 1 := rfl
      have bt1 := bt_01 a m
      have em : h1 (x + 181) m = wtR T S m := q2 m z0 (by omega)
      have wok := (wtR_ok (S := S) hT m).1
      have band := (bAnd_bt wok ha (m := 0) ⟨by decide, by decide⟩).2
      have crg : 0 ≤ bAnd a (bXor (bShl 1 m) (-1)) ∧ bAnd a (bXor (bShl 1 m) (-1)) < 128 := clr_rg ha (m := m) ⟨z0, by omega⟩
      have nxt : ¬ nxP T S a m = true → am_X G mX0_orderAt (d + 440) 69 [aR x, aI i, aI a, aI n, aI m] [] L h1 Q := fun z => by
        have : m < nx1 T S a := by
          apply Classical.byContradiction
          intro y
          exact z (by rw [show m = nx1 T S a by omega]; exact e2)
        refine x_iinc4 dX0_orderAt_69 rfl ?_
        refine x_goto (tgt := 32) dX0_orderAt_72 rfl ?_
        exact ih2 this (by omega) (by omega)
      refine x_iload_2 dX0_orderAt_32 ?_
      refine x_iload4 dX0_orderAt_33 ?_
      refine x_ishr dX0_orderAt_35 ?_
      refine x_iconst dX0_orderAt_36 ?_
      refine x_iand dX0_orderAt_37 ?_
      refine x_if_eq (tgt := 69) dX0_orderAt_38 rfl (by omega) (fun c38 => ?_) (fun c38 => ?_)
      · exact nxt (nxP_f (fun z => by first | (have := z.1; omega) | (have := z.2.1; omega)))
      · refine x_aload_0 dX0_orderAt_41 ?_
        refine x_getR dX0_orderAt_42 fl584_0 rfl (by first | (exact MkL.k0 (by assumption)) | (assumption)) (by first | (exact MkL.v_waitsFor (by assumption)) | (assumption)) ?_
        refine x_iload4 dX0_orderAt_45 ?_
        refine x_iald_ dX0_orderAt_47 (by first | (exact MkL.k_waitsFor (by assumption)) | (assumption)) (by first | (exact MkL.x_waitsFor (by assumption) (by omega) (by omega)) | (omega)) (fun r47 => ?_)
        rw [em] at r47 ⊢
        refine x_iload_2 dX0_orderAt_48 ?_
        refine x_iand dX0_orderAt_49 ?_
        refine x_if_ne (tgt := 69) dX0_orderAt_50 rfl (by omega) (fun c50 => ?_) (fun c50 => ?_)
        · exact nxt (nxP_f (fun z => by first | (have := z.1; omega) | (have := z.2.1; omega)))
        · have hb1 : bt a m = 1 := by omega
          have clt : bAnd a (bXor (bShl 1 m) (-1)) < a := clr_lt ha (m := m) ⟨z0, by omega⟩ hb1
          have eo : h1 (x + 182) (bAnd a (bXor (bShl 1 m) (-1))) = ordR T S (dif a (bShl 1 m)) := q3 _ crg.1 (by have := pw_lt hT.1 ha hs; omega)
          refine x_aload_0 dX0_orderAt_53 ?_
          refine x_getR dX0_orderAt_54 fl585_0 rfl (by first | (exact MkL.k0 (by assumption)) | (assumption)) (by first | (exact MkL.v_ways (by assumption)) | (assumption)) ?_
          refine x_iload_2 dX0_orderAt_57 ?_
          refine x_iconst dX0_orderAt_58 ?_
          refine x_iload4 dX0_orderAt_59 ?_
          refine x_ishl dX0_orderAt_61 ?_
          refine x_iconst dX0_orderAt_62 ?_
          refine x_ixor dX0_orderAt_63 ?_
          refine x_iand dX0_orderAt_64 ?_
          refine x_iald_ dX0_orderAt_65 (by first | (exact MkL.k_ways (by assumption)) | (assumption)) (by first | (exact MkL.x_ways (by assumption) (by omega) (by omega)) | (omega)) (fun r65 => ?_)
          rw [eo] at r65 ⊢
          refine x_if_ne (tgt := 75) dX0_orderAt_66 rfl (by omega) (fun c66 => ?_) (fun c66 => ?_)
          · have eq : m = nx1 T S a := by
              apply Classical.byContradiction
              intro y
              exact e3 m z0 (by omega) (nxP_t (by omega) (by omega) (by omega))
            subst eq
            refine x_iload_3 dX0_orderAt_75 ?_
            refine x_iload_1 dX0_orderAt_76 ?_
            refine x_icmp_ne (tgt := 83) dX0_orderAt_77 rfl (by omega) (by omega) (fun c77 => ?_) (fun c77 => ?_)
            · refine x_iload_2 dX0_orderAt_83 ?_
              refine x_iconst dX0_orderAt_84 ?_
              refine x_iload4 dX0_orderAt_85 ?_
              refine x_ishl dX0_orderAt_87 ?_
              refine x_iconst dX0_orderAt_88 ?_
              refine x_ixor dX0_orderAt_89 ?_
              refine x_iand dX0_orderAt_90 ?_
              refine x_istore_2 dX0_orderAt_91 rfl ?_
              refine x_iinc3 dX0_orderAt_92 rfl ?_
              refine x_goto (tgt := 25) dX0_orderAt_95 rfl ?_
              rw [if_neg (by omega)] at kk
              refine ih (dif a (bShl 1 (nx1 T S a))) _ _ ec (by omega) e20.2.2 (fun m' y0 y1 => ?_) (by omega) kk
              rw [(dif_bt ha (shl_bt (m := nx1 T S a) (o := 0) ⟨e1.1, by omega⟩ ⟨by decide, by decide⟩).2 (m := m') ⟨by omega, y1⟩).1, if_neg (fun z => by have := hs m' y0 y1; omega)]
            · refine x_iload4 dX0_orderAt_80 ?_
              refine x_iret dX0_orderAt_82 rfl ?_
              rw [if_pos (by omega)] at kk
              exact kk
          · exact nxt (nxP_f (fun z => by have := z.2.2; omega))
set_option maxHeartbeats 8000000 in
theorem orderAt_X13 {i : Int} {h2 h3 : am_H} (hL : MdL L o) (hT : TxtI T) (hi : rg32 i) (g2 : ∀ m, 0 ≤ m → m < tM T → h2 (o + 41) m = wtR T S m) (g3 : ∀ a, a ≠ (o + 42) → h3 a = h2 a) (g4 : ∀ a, 0 ≤ a → a < 128 → h3 (o + 42) a = ordR T S a) : ∀ (f : Nat) (a n : Int) (w4 : AV), (0 ≤ a ∧ a < 128) → bits a < f → ordR T S a ≠ 0 → (∀ m, tM T ≤ m → m < 7 → bt a m = 0) → (0 ≤ n ∧ n + bits a ≤ 7) → (kk : Q (.inl [aI (ordAt T S i f a n)]) L h3) → am_X G mX13_orderAt (d + 12) 33 [aR o, aI i, aI a, aI n, w4] [] L h3 Q := by
  have hM := hT.1
  intro f
  induction f with
  | zero =>
    intro a n w4 h1 h2
    have := bits_bd a
    omega
  | succ f ih =>
    intro a n w4 ha hbits hr hs hn kk
    have bb := bits_bd a
    unfold ordAt at kk
    refine x_iload_2 dX13_orderAt_33 ?_
    refine x_if_eq (tgt := 106) dX13_orderAt_34 rfl (by omega) (fun c34 => ?_) (fun c34 => ?_)
    · rw [if_pos (by omega)] at kk
      refine x_iconst dX13_orderAt_106 ?_
      refine x_iret dX13_orderAt_107 rfl ?_
      exact kk
    · refine x_iconst dX13_orderAt_37 ?_
      refine x_istore4 dX13_orderAt_38 rfl ?_
      have h0 : a ≠ 0 := by omega
      rw [if_neg h0] at kk
      obtain ⟨e1, e2, e3⟩ := nx1_ok hT ha h0 hr hs
      have e20 := of_decide_eq_true e2
      have eb := bt_01 a (nx1 T S a)
      have ec := clr_rg ha (m := nx1 T S a) ⟨e1.1, by omega⟩
      have el := clr_bits ha (m := nx1 T S a) ⟨e1.1, by omega⟩ (by omega)
      have ebd := bits_bd (dif a (bShl 1 (nx1 T S a)))
      suffices H2 : ∀ m, 0 ≤ m → m ≤ nx1 T S a → am_X G mX13_orderAt (d + 12) 40 [aR o, aI i, aI a, aI n, aI m] [] L h3 Q from H2 0 (by omega) e1.1
      refine x_up0 (nx1 T S a) (fun m => 0 ≤ m → m ≤ nx1 T S a → am_X G mX13_orderAt (d + 12) 40 [aR o, aI i, aI a, aI n, aI m] [] L h3 Q) (fun m ih2 z0 z1 => ?_)
      have hbt : bt a m = bAnd (bShr a m) 1 := rfl
      have bt1 := bt_01 a m
      have em : h3 (o + 41) m = wtR T S m := by rw [g3 _ (by omega)]; exact g2 m z0 (by omega)
      have wok := (wtR_ok (S := S) hT m).1
      have band := (bAnd_bt wok ha (m := 0) ⟨by decide, by decide⟩).2
      have crg : 0 ≤ bAnd a (bXor (bShl 1 m) (-1)) ∧ bAnd a (bXor (bShl 1 m) (-1)) < 128 := clr_rg ha (m := m) ⟨z0, by omega⟩
      have nxt : ¬ nxP T S a m = true → am_X G mX13_orderAt (d + 12) 77 [aR o, aI i, aI a, aI n, aI m] [] L h3 Q := fun z => by
        have : m < nx1 T S a := by
          apply Classical.byContradiction
          intro y
          exact z (by rw [show m = nx1 T S a by omega]; exact e2)
        refine x_iinc4 dX13_orderAt_77 rfl ?_
        refine x_goto (tgt := 40) dX13_orderAt_80 rfl ?_
        exact ih2 this (by omega) (by omega)
      refine x_iload_2 dX13_orderAt_40 ?_
      refine x_iload4 dX13_orderAt_41 ?_
      refine x_ishr dX13_orderAt_43 ?_
      refine x_iconst dX13_orderAt_44 ?_
      refine x_iand dX13_orderAt_45 ?_
      refine x_if_eq (tgt := 77) dX13_orderAt_46 rfl (by omega) (fun c46 => ?_) (fun c46 => ?_)
      · exact nxt (nxP_f (fun z => by first | (have := z.1; omega) | (have := z.2.1; omega)))
      · refine x_aload_0 dX13_orderAt_49 ?_
        refine x_getR dX13_orderAt_50 fl1634_13 rfl (by first | (exact MdL.k0 (by assumption)) | (assumption)) (by first | (exact MdL.v_waitsFor (by assumption)) | (assumption)) ?_
        refine x_iload4 dX13_orderAt_53 ?_
        refine x_iald_ dX13_orderAt_55 (by first | (exact MdL.k_waitsFor (by assumption)) | (assumption)) (by first | (exact MdL.x_waitsFor (by assumption) (by omega) (by omega)) | (omega)) (fun r55 => ?_)
        rw [em] at r55 ⊢
        refine x_iload_2 dX13_orderAt_56 ?_
        refine x_iand dX13_orderAt_57 ?_
        refine x_if_ne (tgt := 77) dX13_orderAt_58 rfl (by omega) (fun c58 => ?_) (fun c58 => ?_)
        · exact nxt (nxP_f (fun z => by first | (have := z.1; omega) | (have := z.2.1; omega)))
        · have hb1 : bt a m = 1 := by omega
          have clt : bAnd a (bXor (bShl 1 m) (-1)) < a := clr_lt ha (m := m) ⟨z0, by omega⟩ hb1
          have eo : h3 (o + 42) (bAnd a (bXor (bShl 1 m) (-1))) = ordR T S (dif a (bShl 1 m)) := g4 _ crg.1 crg.2
          refine x_aload_0 dX13_orderAt_61 ?_
          refine x_getR dX13_orderAt_62 fl1635_13 rfl (by first | (exact MdL.k0 (by assumption)) | (assumption)) (by first | (exact MdL.v_ordersOf (by assumption)) | (assumption)) ?_
          refine x_iload_2 dX13_orderAt_65 ?_
          refine x_iconst dX13_orderAt_66 ?_
          refine x_iload4 dX13_orderAt_67 ?_
          refine x_ishl dX13_orderAt_69 ?_
          refine x_iconst dX13_orderAt_70 ?_
          refine x_ixor dX13_orderAt_71 ?_
          refine x_iand dX13_orderAt_72 ?_
          refine x_iald_ dX13_orderAt_73 (by first | (exact MdL.k_ordersOf (by assumption)) | (assumption)) (by first | (exact MdL.x_ordersOf (by assumption) (by omega) (by omega)) | (omega)) (fun r73 => ?_)
          rw [eo] at r73 ⊢
          refine x_if_ne (tgt := 83) dX13_orderAt_74 rfl (by omega) (fun c74 => ?_) (fun c74 => ?_)
          · have eq : m = nx1 T S a := by
              apply Classical.byContradiction
              intro y
              exact e3 m z0 (by omega) (nxP_t (by omega) (by omega) (by omega))
            subst eq
            refine x_iload_3 dX13_orderAt_83 ?_
            refine x_iload_1 dX13_orderAt_84 ?_
            refine x_icmp_ne (tgt := 91) dX13_orderAt_85 rfl (by omega) (by omega) (fun c85 => ?_) (fun c85 => ?_)
            · refine x_iload_2 dX13_orderAt_91 ?_
              refine x_iconst dX13_orderAt_92 ?_
              refine x_iload4 dX13_orderAt_93 ?_
              refine x_ishl dX13_orderAt_95 ?_
              refine x_iconst dX13_orderAt_96 ?_
              refine x_ixor dX13_orderAt_97 ?_
              refine x_iand dX13_orderAt_98 ?_
              refine x_istore_2 dX13_orderAt_99 rfl ?_
              refine x_iinc3 dX13_orderAt_100 rfl ?_
              refine x_goto (tgt := 33) dX13_orderAt_103 rfl ?_
              rw [if_neg (by omega)] at kk
              refine ih (dif a (bShl 1 (nx1 T S a))) _ _ ec (by omega) e20.2.2 (fun m' y0 y1 => ?_) (by omega) kk
              rw [(dif_bt ha (shl_bt (m := nx1 T S a) (o := 0) ⟨e1.1, by omega⟩ ⟨by decide, by decide⟩).2 (m := m') ⟨by omega, y1⟩).1, if_neg (fun z => by have := hs m' y0 y1; omega)]
            · refine x_iload4 dX13_orderAt_88 ?_
              refine x_iret dX13_orderAt_90 rfl ?_
              rw [if_pos (by omega)] at kk
              exact kk
          · exact nxt (nxP_f (fun z => by have := z.2.2; omega))
theorem C_X0_orderAt {i : Int} (hC : CoT L h x t T S) (hT : TxtI T) (hI : RowI T S b q) (hi : rg32 i) (k : ∀ h', FrS h h' x → Q (.inl [aI (orderAtV T S i)]) L h') : am_C G mX0_orderAt (d + 440) [aR x, aI i] L h Q := by
  have hK := hC.mk
  have hM := hT.1
  have bo := outR_ok (S := S) hT
  have bl := outR_lt (S := S) hT
  have bp := pw_bd hT.1
  refine x_start okX0_orderAt rfl rfl rfl rfl ?_
  refine x_iload_1 dX0_orderAt_0 ?_
  refine x_if_ge (tgt := 6) dX0_orderAt_1 rfl (by omega) (fun c1 => ?_) (fun c1 => ?_)
  · refine x_aload_0 dX0_orderAt_6 ?_
    refine x_callV0 dX0_orderAt_7 rfl okX0_laysWaits q1323 q1325 qs36 (by first | assumption | (exact MkL.k0 (by assumption))) am_k0 rfl (C_X0_laysWaits (d := d + 7) hC hT hI (fun h1 q1 q2 q3 => (x_k1 ?_)))
    refine x_istore_2 dX0_orderAt_10 rfl ?_
    refine x_iconst dX0_orderAt_11 ?_
    refine x_istore_3 dX0_orderAt_12 rfl ?_
    refine x_aload_0 dX0_orderAt_13 ?_
    refine x_getR dX0_orderAt_14 fl585_0 rfl (by first | (exact MkL.k0 (by assumption)) | (assumption)) (by first | (exact MkL.v_ways (by assumption)) | (assumption)) ?_
    refine x_iload_2 dX0_orderAt_17 ?_
    refine x_iald_ dX0_orderAt_18 (by first | (exact MkL.k_ways (by assumption)) | (assumption)) (by first | (exact MkL.x_ways (by assumption) (by omega) (by omega)) | (omega)) (fun r18 => ?_)
    rw [q3 _ bo.1.1 bl] at r18 ⊢
    have brd := ordR_bd (S := S) hT bo.1
    refine x_if_ne (tgt := 25) dX0_orderAt_19 rfl (by omega) (fun c19 => ?_) (fun c19 => ?_)
    · have eV : orderAtV T S i = ordAt T S i 8 (outR T S) 0 := by unfold orderAtV; rw [if_neg (by omega), if_neg (by omega)]
      have k1 : Q (.inl [aI (ordAt T S i 8 (outR T S) 0)]) L h1 := by rw [← eV]; exact k h1 q1
      clear k
      exact orderAt_X0 hK hT hi q2 q3 8 _ 0 _ bo.1 (by have := bits_bd (outR T S); omega) (by omega) (fun m y0 y1 => by rw [bo.2 m (by omega) y1, if_neg (by omega)]) (by have := bits_bd (outR T S); omega) k1
    · refine x_bipush dX0_orderAt_22 rfl ?_
      refine x_iret dX0_orderAt_24 rfl ?_
      refine x_q1 ?_ (k h1 q1)
      unfold orderAtV
      rw [if_neg (by omega), if_pos (by omega)]
  · refine x_iconst dX0_orderAt_4 ?_
    refine x_iret dX0_orderAt_5 rfl ?_
    refine x_q1 ?_ (k h (FrS.rf h x))
    unfold orderAtV
    rw [if_pos (by omega)]
theorem C_X13_orderAt {i : Int} (hC : TwT L h o s T S) (hT : TxtI T) (hI : RowI T S b q) (hi : rg32 i) (k : ∀ h', FrW h h' o → Q (.inl [aI (orderAtV T S i)]) L h') : am_C G mX13_orderAt (d + 12) [aR o, aI i] L h Q := by
  have hM := hC.1
  have hL := hM.1
  have hM7 := hT.1
  have bo := outR_ok (S := S) hT
  refine x_start okX13_orderAt rfl rfl rfl rfl ?_
  refine x_iload_1 dX13_orderAt_0 ?_
  refine x_if_ge (tgt := 6) dX13_orderAt_1 rfl (by omega) (fun c1 => ?_) (fun c1 => ?_)
  · refine x_aload_0 dX13_orderAt_6 ?_
    refine x_callV0 dX13_orderAt_7 rfl okX13_copies q1934 q1936 qs81 (by first | assumption | (exact MdL.k0 (by assumption))) am_k13 rfl (C_X13_copiesR hL hC.2 hI hT (fun h1 e1 f1 e2 e3 => (x_k0 ?_)))
    refine x_aload_0 dX13_orderAt_10 ?_
    refine x_callV0 dX13_orderAt_11 rfl okX13_fillsWaits q2046 q2048 qs95 (by first | assumption | (exact MdL.k0 (by assumption))) am_k13 rfl (C_X13_fillsWaits (hM.fr f1) hT e2 hI (fun h2 g1 g2 => (x_k1 ?_)))
    have f2 : FrW h h2 o := f1.tr fun a i z => by rw [g1 a (by omega)]
    refine x_istore_2 dX13_orderAt_14 rfl ?_
    refine x_aload_0 dX13_orderAt_15 ?_
    refine x_callV0 dX13_orderAt_16 rfl okX13_fillsOrders q2054 q2056 qs96 (by first | assumption | (exact MdL.k0 (by assumption))) am_k13 rfl (C_X13_fillsOrders (S := S) (hM.fr f2) hT g2 (fun h3 g3 g4 => (x_k0 ?_)))
    refine x_aload_0 dX13_orderAt_19 ?_
    refine x_getR dX13_orderAt_20 fl1635_13 rfl (by first | (exact MdL.k0 (by assumption)) | (assumption)) (by first | (exact MdL.v_ordersOf (by assumption)) | (assumption)) ?_
    refine x_iload_2 dX13_orderAt_23 ?_
    refine x_iald_ dX13_orderAt_24 (by first | (exact MdL.k_ordersOf (by assumption)) | (assumption)) (by first | (exact MdL.x_ordersOf (by assumption) (by omega) (by omega)) | (omega)) (fun r24 => ?_)
    rw [g4 _ bo.1.1 bo.1.2] at r24 ⊢
    have f3 : FrW h h3 o := f2.tr fun a i z => by rw [g3 a (by omega)]
    have brd := ordR_bd (S := S) hT bo.1
    refine x_if_ne (tgt := 31) dX13_orderAt_25 rfl (by omega) (fun c25 => ?_) (fun c25 => ?_)
    · refine x_iconst dX13_orderAt_31 ?_
      refine x_istore_3 dX13_orderAt_32 rfl ?_
      have eV : orderAtV T S i = ordAt T S i 8 (outR T S) 0 := by unfold orderAtV; rw [if_neg (by omega), if_neg (by omega)]
      have k1 : Q (.inl [aI (ordAt T S i 8 (outR T S) 0)]) L h3 := by rw [← eV]; exact k h3 f3
      clear k
      exact orderAt_X13 hL hT hi g2 g3 g4 8 _ 0 _ bo.1 (by have := bits_bd (outR T S); omega) (by omega) (fun m y0 y1 => by rw [bo.2 m (by omega) y1, if_neg (by omega)]) (by have := bits_bd (outR T S); omega) k1
    · refine x_bipush dX13_orderAt_28 rfl ?_
      refine x_iret dX13_orderAt_30 rfl ?_
      refine x_q1 ?_ (k h3 f3)
      unfold orderAtV
      rw [if_neg (by omega), if_pos (by omega)]
  · refine x_iconst dX13_orderAt_4 ?_
    refine x_iret dX13_orderAt_5 rfl ?_
    refine x_q1 ?_ (k h (FrW.rf h o))
    unfold orderAtV
    rw [if_pos (by omega)]
end ORD3
