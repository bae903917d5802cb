/-! THE TWIN: longOf, leftOf, goesOf -/
set_option maxRecDepth 100000
section MGO
variable {G : am_G} {d : Nat} {L : am_L} {h : am_H} {Q : am_O → am_L → am_H → Prop} {o s : Int} {T : Txt} {S : Row} {b q : Int}
theorem Seg.ext {c ci : Int → Int} {v v' : Int → Int} (hv : ∀ i, 0 ≤ i → i < 6 → v i = v' i) : ∀ (n : Nat) {a b : Int} {ta : Tau}, Seg c ci n a b ta → ta v = ta v'
  | 0, _, _, _, h => h.elim
  | n + 1, a, b, ta, hs => by
    rcases hs with ⟨h1, h2, rfl⟩ | ⟨h1, h2, h3, rfl⟩ | ⟨u, e, t1, t2, h1, h2, h3, h4, rfl⟩
    · rfl
    · show (v _, (0 : Int)) = (v' _, 0)
      rw [hv _ h2.1 h2.2]
    · unfold jnT
      rw [Seg.ext hv n h1, Seg.ext hv n h2]
theorem LwB.ext {f l : Int} {la : Lam} (hl : LwB h o s f l la) {v v' : Int → Int} (hv : ∀ i, 0 ≤ i → i < 6 → v i = v' i) : la v = la v' := by
  obtain ⟨n, tl, tt, te, hn, -, -, -, rfl, hb, he, -⟩ := hl
  have g : ∀ {a b : Int} {ta : Tau}, SegT h o s a b ta → ta v = ta v' := by
    intro a b ta r
    obtain ⟨-, -, m, r⟩ := r
    exact Seg.ext hv m r
  unfold lamOf
  rw [lawGo_ext (N := n) (v' := v') (fun k h0 h1 => ⟨g (hb k h0 h1).2.1, g (hb k h0 h1).2.2⟩) (fun k h0 h1 => g (he k h0 h1)) n.toNat 0 0 (by omega) (by omega)]
theorem C_X13_tellsBy0 {at_ : Int} (hL : MdL L o) (ha : 0 ≤ at_ ∧ at_ < 16) (hw : h (o + 25) at_ = h (o + 26) at_)
    (k : ∀ h', (∀ x i, (x = o → i ≠ 54) → h' x i = h x i) → Q (.inl [aI 0]) L h') : am_C G mX13_tellsBy (d + 1) [aR o, aI at_] L h Q := by
  refine x_start okX13_tellsBy rfl rfl rfl rfl ?_
  refine x_aload_0 dX13_tellsBy_0 ?_
  refine x_iconst dX13_tellsBy_1 ?_
  refine x_putZ_ dX13_tellsBy_2 fl1628_13 (by first | (exact MdL.k0 (by assumption)) | (assumption)) (by omega) ?_
  refine x_aload_0 dX13_tellsBy_5 ?_
  refine x_getR dX13_tellsBy_6 fl1613_13 rfl (by first | (exact MdL.k0 (by assumption)) | (assumption)) (by first | (exact MdL.v_lawFirst (by assumption)) | (assumption)) ?_
  refine x_iload_1 dX13_tellsBy_9 ?_
  refine x_iald_ dX13_tellsBy_10 (by first | (exact MdL.k_lawFirst (by assumption)) | (assumption)) (by first | (exact MdL.x_lawFirst (by assumption) (by omega) (by omega)) | (omega)) (fun r10 => ?_)
  simp (disch := omega) only [am_st_o] at r10 ⊢
  refine x_istore_2 dX13_tellsBy_11 rfl ?_
  refine x_iload_2 dX13_tellsBy_12 ?_
  refine x_aload_0 dX13_tellsBy_13 ?_
  refine x_getR dX13_tellsBy_14 fl1614_13 rfl (by first | (exact MdL.k0 (by assumption)) | (assumption)) (by first | (exact MdL.v_lawLast (by assumption)) | (assumption)) ?_
  refine x_iload_1 dX13_tellsBy_17 ?_
  refine x_iald_ dX13_tellsBy_18 (by first | (exact MdL.k_lawLast (by assumption)) | (assumption)) (by first | (exact MdL.x_lawLast (by assumption) (by omega) (by omega)) | (omega)) (fun r18 => ?_)
  simp (disch := omega) only [am_st_o] at r18 ⊢
  refine x_icmp_ge (tgt := 120) dX13_tellsBy_19 rfl (by omega) (by omega) (fun c19 => ?_) (fun c19 => ?_)
  · refine x_iconst dX13_tellsBy_120 ?_
    refine x_iret dX13_tellsBy_121 rfl ?_
    refine k _ (fun x i z => ?_)
    by_cases e : x = o
    · subst e
      exact am_st_i (z rfl)
    · rw [am_st_o e]
  · exfalso; omega
set_option maxHeartbeats 4000000 in
theorem C_X13_longOf {m : Int} (hM : MdT L h o s T) (hT : TxtI T) (hm : 0 ≤ m ∧ m < tM T) (k : ∀ h', FrV h h' o → Q (.inl [aI (lng T m)]) L h') : am_C G mX13_longOf (d + 3) [aR o, aI m] L h Q := by
  have hM0 := hM
  obtain ⟨hL, hs, hlv, -, -, -, -, -, hme, -, hlaw⟩ := hM
  have hM7 := hT.1
  obtain ⟨hx, hy, -⟩ := hme m hm.1 hm.2
  refine x_start okX13_longOf rfl rfl rfl rfl ?_
  rcases hlaw with ⟨g1, g2⟩ | ⟨la, g1, g2⟩
  · have el : lng T m = 30 := by unfold lng; rw [g1]
    refine x_bipush dX13_longOf_0 rfl ?_
    refine x_aload_0 dX13_longOf_2 ?_
    refine x_getI_ dX13_longOf_3 fl1592_13 (by first | (exact MdL.k0 (by assumption)) | (assumption)) (fun r3 => ?_)
    rw [hlv] at r3 ⊢
    refine x_imul dX13_longOf_6 ?_
    refine x_bipush dX13_longOf_7 rfl ?_
    refine x_iadd dX13_longOf_9 ?_
    refine x_istore_2 dX13_longOf_10 rfl ?_
    refine x_aload_0 dX13_longOf_11 ?_
    refine x_getR dX13_longOf_12 fl1613_13 rfl (by first | (exact MdL.k0 (by assumption)) | (assumption)) (by first | (exact MdL.v_lawFirst (by assumption)) | (assumption)) ?_
    refine x_iload_2 dX13_longOf_15 ?_
    refine x_iald_ dX13_longOf_16 (by first | (exact MdL.k_lawFirst (by assumption)) | (assumption)) (by first | (exact MdL.x_lawFirst (by assumption) (by omega) (by omega)) | (omega)) (fun r16 => ?_)
    refine x_aload_0 dX13_longOf_17 ?_
    refine x_getR dX13_longOf_18 fl1614_13 rfl (by first | (exact MdL.k0 (by assumption)) | (assumption)) (by first | (exact MdL.v_lawLast (by assumption)) | (assumption)) ?_
    refine x_iload_2 dX13_longOf_21 ?_
    refine x_iald_ dX13_longOf_22 (by first | (exact MdL.k_lawLast (by assumption)) | (assumption)) (by first | (exact MdL.x_lawLast (by assumption) (by omega) (by omega)) | (omega)) (fun r22 => ?_)
    refine x_icmp_ne (tgt := 29) dX13_longOf_23 rfl (by omega) (by omega) (fun c23 => ?_) (fun c23 => ?_)
    · exfalso; omega
    · refine x_bipush dX13_longOf_26 rfl ?_
      refine x_iret dX13_longOf_28 rfl ?_
      refine x_q1 el.symm (k h (FrV.rf h o))
  · have el : lng T m = (if la (env6 (tDX T m) (tDY T m) 0 0 0 m) < 60 then la (env6 (tDX T m) (tDY T m) 0 0 0 m) else 60) := by unfold lng; rw [g1]
    have hne : h (o + 25) (8 * s + 7) ≠ h (o + 26) (8 * s + 7) := by
      obtain ⟨n, -, -, -, z1, -, z2, -⟩ := g2
      omega
    refine x_bipush dX13_longOf_0 rfl ?_
    refine x_aload_0 dX13_longOf_2 ?_
    refine x_getI_ dX13_longOf_3 fl1592_13 (by first | (exact MdL.k0 (by assumption)) | (assumption)) (fun r3 => ?_)
    rw [hlv] at r3 ⊢
    refine x_imul dX13_longOf_6 ?_
    refine x_bipush dX13_longOf_7 rfl ?_
    refine x_iadd dX13_longOf_9 ?_
    refine x_istore_2 dX13_longOf_10 rfl ?_
    refine x_aload_0 dX13_longOf_11 ?_
    refine x_getR dX13_longOf_12 fl1613_13 rfl (by first | (exact MdL.k0 (by assumption)) | (assumption)) (by first | (exact MdL.v_lawFirst (by assumption)) | (assumption)) ?_
    refine x_iload_2 dX13_longOf_15 ?_
    refine x_iald_ dX13_longOf_16 (by first | (exact MdL.k_lawFirst (by assumption)) | (assumption)) (by first | (exact MdL.x_lawFirst (by assumption) (by omega) (by omega)) | (omega)) (fun r16 => ?_)
    refine x_aload_0 dX13_longOf_17 ?_
    refine x_getR dX13_longOf_18 fl1614_13 rfl (by first | (exact MdL.k0 (by assumption)) | (assumption)) (by first | (exact MdL.v_lawLast (by assumption)) | (assumption)) ?_
    refine x_iload_2 dX13_longOf_21 ?_
    refine x_iald_ dX13_longOf_22 (by first | (exact MdL.k_lawLast (by assumption)) | (assumption)) (by first | (exact MdL.x_lawLast (by assumption) (by omega) (by omega)) | (omega)) (fun r22 => ?_)
    refine x_icmp_ne (tgt := 29) dX13_longOf_23 rfl (by omega) (by omega) (fun c23 => ?_) (fun c23 => ?_)
    · refine x_iconst dX13_longOf_29 ?_
      refine x_istore_3 dX13_longOf_30 rfl ?_
      refine x_for 6 (fun i hh => (∀ x, x ≠ (o + 35) → hh x = h x) ∧ ∀ j, 0 ≤ j → j < i → hh (o + 35) j = 0) (fun i hh => am_X G mX13_longOf (d + 3) 31 [aR o, aI m, aI (8 * s + 7), aI i] [] L hh Q) (fun i hh z0 z1 hP ih => ?_) h (by omega) ⟨fun _ _ => rfl, fun j z0 z1 => by omega⟩
      obtain ⟨p1, p2⟩ := hP
      have hlv2 : hh o 18 = s := by rw [p1 o (by omega)]; exact hlv
      refine x_iload_3 dX13_longOf_31 ?_
      refine x_bipush dX13_longOf_32 rfl ?_
      refine x_icmp_ge (tgt := 50) dX13_longOf_34 rfl (by omega) (by omega) (fun c34 => ?_) (fun c34 => ?_)
      · have e6 : i = 6 := by omega
        subst e6
        have f1 : ∀ j, hh (o + 12) j = h (o + 12) j := fun j => by rw [p1 _ (by omega)]
        have f2 : ∀ j, hh (o + 13) j = h (o + 13) j := fun j => by rw [p1 _ (by omega)]
        refine x_aload_0 dX13_longOf_50 ?_
        refine x_getR dX13_longOf_51 fl1626_13 rfl (by first | (exact MdL.k0 (by assumption)) | (assumption)) (by first | (exact MdL.v_variables (by assumption)) | (assumption)) ?_
        refine x_iconst dX13_longOf_54 ?_
        refine x_aload_0 dX13_longOf_55 ?_
        refine x_getR dX13_longOf_56 fl1599_13 rfl (by first | (exact MdL.k0 (by assumption)) | (assumption)) (by first | (exact MdL.v_doorX (by assumption)) | (assumption)) ?_
        refine x_bipush dX13_longOf_59 rfl ?_
        refine x_aload_0 dX13_longOf_61 ?_
        refine x_getI_ dX13_longOf_62 fl1592_13 (by first | (exact MdL.k0 (by assumption)) | (assumption)) (fun r62 => ?_)
        simp (disch := omega) only [am_st_o, hlv2] at r62 ⊢
        refine x_imul dX13_longOf_65 ?_
        refine x_iload_1 dX13_longOf_66 ?_
        refine x_iadd dX13_longOf_67 ?_
        refine x_iald_ dX13_longOf_68 (by first | (exact MdL.k_doorX (by assumption)) | (assumption)) (by first | (exact MdL.x_doorX (by assumption) (by omega) (by omega)) | (omega)) (fun r68 => ?_)
        simp (disch := omega) only [am_st_o, f1, hx] at r68 ⊢
        refine x_iast_ dX13_longOf_69 (by first | (exact MdL.k_variables (by assumption)) | (assumption)) (by first | (exact MdL.x_variables (by assumption) (by omega) (by omega)) | (omega)) (by omega) ?_
        refine x_aload_0 dX13_longOf_70 ?_
        refine x_getR dX13_longOf_71 fl1626_13 rfl (by first | (exact MdL.k0 (by assumption)) | (assumption)) (by first | (exact MdL.v_variables (by assumption)) | (assumption)) ?_
        refine x_iconst dX13_longOf_74 ?_
        refine x_aload_0 dX13_longOf_75 ?_
        refine x_getR dX13_longOf_76 fl1600_13 rfl (by first | (exact MdL.k0 (by assumption)) | (assumption)) (by first | (exact MdL.v_doorY (by assumption)) | (assumption)) ?_
        refine x_bipush dX13_longOf_79 rfl ?_
        refine x_aload_0 dX13_longOf_81 ?_
        refine x_getI_ dX13_longOf_82 fl1592_13 (by first | (exact MdL.k0 (by assumption)) | (assumption)) (fun r82 => ?_)
        simp (disch := omega) only [am_st_o, hlv2] at r82 ⊢
        refine x_imul dX13_longOf_85 ?_
        refine x_iload_1 dX13_longOf_86 ?_
        refine x_iadd dX13_longOf_87 ?_
        refine x_iald_ dX13_longOf_88 (by first | (exact MdL.k_doorY (by assumption)) | (assumption)) (by first | (exact MdL.x_doorY (by assumption) (by omega) (by omega)) | (omega)) (fun r88 => ?_)
        simp (disch := omega) only [am_st_o, f2, hy] at r88 ⊢
        refine x_iast_ dX13_longOf_89 (by first | (exact MdL.k_variables (by assumption)) | (assumption)) (by first | (exact MdL.x_variables (by assumption) (by omega) (by omega)) | (omega)) (by omega) ?_
        refine x_aload_0 dX13_longOf_90 ?_
        refine x_getR dX13_longOf_91 fl1626_13 rfl (by first | (exact MdL.k0 (by assumption)) | (assumption)) (by first | (exact MdL.v_variables (by assumption)) | (assumption)) ?_
        refine x_iconst dX13_longOf_94 ?_
        refine x_iload_1 dX13_longOf_95 ?_
        refine x_iast_ dX13_longOf_96 (by first | (exact MdL.k_variables (by assumption)) | (assumption)) (by first | (exact MdL.x_variables (by assumption) (by omega) (by omega)) | (omega)) (by omega) ?_
        generalize eh4 : am_st (am_st (am_st hh (o + 35) 0 (tDX T m)) (o + 35) 1 (tDY T m)) (o + 35) 5 m = h4
        have q1 : ∀ x, x ≠ (o + 35) → h4 x = h x := fun x hx => by
          rw [← eh4]
          simp (disch := omega) only [am_st_o]
          exact p1 x hx
        have qV : FrV h h4 o := fun x i z => by rw [q1 x z.1]
        have q2 : ∀ j, 0 ≤ j → j < 6 → h4 (o + 35) j = env6 (tDX T m) (tDY T m) 0 0 0 m j := fun j y0 y1 => by
          rw [← eh4]
          simp (disch := omega) only [am_st_at, true_and]
          unfold env6
          have := p2 j y0 y1
          (repeat' split) <;> omega
        have qL : LwB h4 o s (h4 (o + 25) (8 * s + 7)) (h4 (o + 26) (8 * s + 7)) la := by
          rw [q1 (o + 25) (by omega), q1 (o + 26) (by omega)]
          exact g2.fr qV.w
        refine x_aload_0 dX13_longOf_97 ?_
        refine x_iload_2 dX13_longOf_98 ?_
        refine x_callV1 dX13_longOf_99 rfl okX13_tellsBy q1946 q1948 qs84 (by first | assumption | (exact MdL.k0 (by assumption))) am_k13 rfl (C_X13_tellsBy hL hs ⟨by omega, by omega⟩ qL (fun z h5 y1 y2 y3 => (x_k1 ?_)))
        rw [g2.ext q2] at y2
        refine x_istore_3 dX13_longOf_102 rfl ?_
        refine x_iload_3 dX13_longOf_103 ?_
        refine x_if_ge (tgt := 111) dX13_longOf_104 rfl (by omega) (fun c104 => ?_) (fun c104 => ?_)
        · refine x_iload_3 dX13_longOf_111 ?_
          refine x_bipush dX13_longOf_112 rfl ?_
          refine x_icmp_le (tgt := 122) dX13_longOf_114 rfl (by omega) (by omega) (fun c114 => ?_) (fun c114 => ?_)
          · refine x_iload_3 dX13_longOf_122 ?_
            refine x_iret dX13_longOf_123 rfl ?_
            refine x_q1 ?_ (k h5 (qV.tr (FrV.ofP y3)))
            rw [el, ← y2]
            (repeat' split) <;> omega
          · refine x_bipush dX13_longOf_117 rfl ?_
            refine x_goto (tgt := 123) dX13_longOf_119 rfl ?_
            refine x_iret dX13_longOf_123 rfl ?_
            refine x_q1 ?_ (k h5 (qV.tr (FrV.ofP y3)))
            rw [el, ← y2]
            (repeat' split) <;> omega
        · refine x_iconst dX13_longOf_107 ?_
          refine x_goto (tgt := 123) dX13_longOf_108 rfl ?_
          refine x_iret dX13_longOf_123 rfl ?_
          refine x_q1 ?_ (k h5 (qV.tr (FrV.ofP y3)))
          rw [el, ← y2]
          (repeat' split) <;> omega
      · refine x_aload_0 dX13_longOf_37 ?_
        refine x_getR dX13_longOf_38 fl1626_13 rfl (by first | (exact MdL.k0 (by assumption)) | (assumption)) (by first | (exact MdL.v_variables (by assumption)) | (assumption)) ?_
        refine x_iload_3 dX13_longOf_41 ?_
        refine x_iconst dX13_longOf_42 ?_
        refine x_iast_ dX13_longOf_43 (by first | (exact MdL.k_variables (by assumption)) | (assumption)) (by first | (exact MdL.x_variables (by assumption) (by omega) (by omega)) | (omega)) (by omega) ?_
        refine x_iinc3 dX13_longOf_44 rfl ?_
        refine x_goto (tgt := 31) dX13_longOf_47 rfl ?_
        refine ih _ (by omega) ⟨fun a ha => ?_, fun j z0 z1 => ?_⟩
        · simp (disch := omega) only [am_st_o]
          exact p1 a ha
        · rw [am_st_at]
          by_cases e : j = i
          · rw [if_pos ⟨rfl, e⟩]
          · rw [if_neg (by omega)]
            exact p2 j z0 (by omega)
    · exact absurd c23 hne
theorem C_X13_leftOf {m : Int} (hM : MdT L h o s T) (hT : TxtI T) (hm : 0 ≤ m ∧ m < tM T) (hR : RwF (h (o + 38)) (tM T) S) (k : ∀ h', FrV h h' o → Q (.inl [aI (lng T m - rN S m)]) L h') : am_C G mX13_leftOf (d + 4) [aR o, aI m] L h Q := by
  have hL := hM.1
  have h7 := hT.1
  obtain ⟨rn, -⟩ := hR.1 m hm.1 (by omega)
  refine x_start okX13_leftOf rfl rfl rfl rfl ?_
  refine x_aload_0 dX13_leftOf_0 ?_
  refine x_iload_1 dX13_leftOf_1 ?_
  refine x_callV1 dX13_leftOf_2 rfl okX13_longOf q1942 q1944 qs83 (by first | assumption | (exact MdL.k0 (by assumption))) am_k13 rfl (C_X13_longOf hM hT hm (fun h1 e1 => (x_k1 ?_)))
  refine x_aload_0 dX13_leftOf_5 ?_
  refine x_getR dX13_leftOf_6 fl1630_13 rfl (by first | (exact MdL.k0 (by assumption)) | (assumption)) (by first | (exact MdL.v_row (by assumption)) | (assumption)) ?_
  refine x_bipush dX13_leftOf_9 rfl ?_
  refine x_iload_1 dX13_leftOf_11 ?_
  refine x_iadd dX13_leftOf_12 ?_
  refine x_iald_ dX13_leftOf_13 (by first | (exact MdL.k_row (by assumption)) | (assumption)) (by first | (exact MdL.x_row (by assumption) (by omega) (by omega)) | (omega)) (fun r13 => ?_)
  have e2 : h1 (o + 38) (14 + m) = rN S m := by rw [e1 _ _ ⟨by omega, by omega, fun z => by omega⟩]; exact rn
  rw [e2] at r13 ⊢
  refine x_isub dX13_leftOf_14 ?_
  refine x_iret dX13_leftOf_15 rfl ?_
  exact k h1 e1
set_option maxHeartbeats 4000000 in
theorem C_X13_goesOf {m lt : Int} (hM : MdT L h o s T) (hT : TxtI T) (hm : 0 ≤ m ∧ m < tM T) (hR : RwF (h (o + 38)) (tM T) S) (hI : RowI T S b q) (hb : b ≤ 100000) (hlt : h (o + 39) m = lt) (hl : 0 ≤ lt ∧ lt ≤ 100) (hbt : bt (rL S) m = 0)
    (k : ∀ h', FrV h h' o → Q (.inl [aI (doesR T S m lt)]) L h') : am_C G mX13_goesOf (d + 5) [aR o, aI m] L h Q := by
  have hM0 := hM
  obtain ⟨hL, hs, hlv, -, -, -, -, hsd, hme, -, -⟩ := hM
  have hM7 := hT.1
  obtain ⟨-, -, -, -, -, hlaw⟩ := hme m hm.1 hm.2
  have hR0 := hR
  obtain ⟨rn, rx, rk, rm, rq⟩ := hR
  obtain ⟨hx, hy⟩ := rx m hm.1 hm.2
  have bm := hI.2.2.2.2.2.2.1
  have bn := (hI.1 m hm.1 (by omega)).1
  have bl := lng_bd hT m
  have bx := (hI.2.1 m hm.1 hm.2).1
  unfold inT at bx
  have bw := hT.2.1
  have bd := hT.2.2.1
  refine x_start okX13_goesOf rfl rfl rfl rfl ?_
  refine x_aload_0 dX13_goesOf_0 ?_
  refine x_getR dX13_goesOf_1 fl1630_13 rfl (by first | (exact MdL.k0 (by assumption)) | (assumption)) (by first | (exact MdL.v_row (by assumption)) | (assumption)) ?_
  refine x_bipush dX13_goesOf_4 rfl ?_
  refine x_iald_ dX13_goesOf_6 (by first | (exact MdL.k_row (by assumption)) | (assumption)) (by first | (exact MdL.x_row (by assumption) (by omega) (by omega)) | (omega)) (fun r6 => ?_)
  rw [rm] at r6 ⊢
  refine x_aload_0 dX13_goesOf_7 ?_
  refine x_getR dX13_goesOf_8 fl1631_13 rfl (by first | (exact MdL.k0 (by assumption)) | (assumption)) (by first | (exact MdL.v_later (by assumption)) | (assumption)) ?_
  refine x_iload_1 dX13_goesOf_11 ?_
  refine x_iald_ dX13_goesOf_12 (by first | (exact MdL.k_later (by assumption)) | (assumption)) (by first | (exact MdL.x_later (by assumption) (by omega) (by omega)) | (omega)) (fun r12 => ?_)
  rw [hlt] at r12 ⊢
  refine x_isub dX13_goesOf_13 ?_
  refine x_istore_2 dX13_goesOf_14 rfl ?_
  refine x_aload_0 dX13_goesOf_15 ?_
  refine x_iload_1 dX13_goesOf_16 ?_
  refine x_callV1 dX13_goesOf_17 rfl okX13_leftOf q1938 q1940 qs82 (by first | assumption | (exact MdL.k0 (by assumption))) am_k13 rfl (C_X13_leftOf hM0 hT hm hR0 (fun h1 e1 => (x_k1 ?_)))
  have f1 : ∀ j, h1 (o + 38) j = h (o + 38) j := fun j => e1 _ _ ⟨by omega, by omega, fun z => by omega⟩
  have f2 : ∀ j, h1 (o + 21) j = h (o + 21) j := fun j => e1 _ _ ⟨by omega, by omega, fun z => by omega⟩
  have f3 : h1 o 18 = s := by rw [e1 _ _ ⟨by omega, by omega, fun z => by omega⟩]; exact hlv
  refine x_istore_3 dX13_goesOf_20 rfl ?_
  refine x_aload_0 dX13_goesOf_21 ?_
  refine x_getR dX13_goesOf_22 fl1626_13 rfl (by first | (exact MdL.k0 (by assumption)) | (assumption)) (by first | (exact MdL.v_variables (by assumption)) | (assumption)) ?_
  refine x_iconst dX13_goesOf_25 ?_
  refine x_aload_0 dX13_goesOf_26 ?_
  refine x_getR dX13_goesOf_27 fl1630_13 rfl (by first | (exact MdL.k0 (by assumption)) | (assumption)) (by first | (exact MdL.v_row (by assumption)) | (assumption)) ?_
  refine x_iload_1 dX13_goesOf_30 ?_
  refine x_iald_ dX13_goesOf_31 (by first | (exact MdL.k_row (by assumption)) | (assumption)) (by first | (exact MdL.x_row (by assumption) (by omega) (by omega)) | (omega)) (fun r31 => ?_)
  rw [f1, hx] at r31 ⊢
  refine x_iast_ dX13_goesOf_32 (by first | (exact MdL.k_variables (by assumption)) | (assumption)) (by first | (exact MdL.x_variables (by assumption) (by omega) (by omega)) | (omega)) (by omega) ?_
  refine x_aload_0 dX13_goesOf_33 ?_
  refine x_getR dX13_goesOf_34 fl1626_13 rfl (by first | (exact MdL.k0 (by assumption)) | (assumption)) (by first | (exact MdL.v_variables (by assumption)) | (assumption)) ?_
  refine x_iconst dX13_goesOf_37 ?_
  refine x_aload_0 dX13_goesOf_38 ?_
  refine x_getR dX13_goesOf_39 fl1630_13 rfl (by first | (exact MdL.k0 (by assumption)) | (assumption)) (by first | (exact MdL.v_row (by assumption)) | (assumption)) ?_
  refine x_bipush dX13_goesOf_42 rfl ?_
  refine x_iload_1 dX13_goesOf_44 ?_
  refine x_iadd dX13_goesOf_45 ?_
  refine x_iald_ dX13_goesOf_46 (by first | (exact MdL.k_row (by assumption)) | (assumption)) (by first | (exact MdL.x_row (by assumption) (by omega) (by omega)) | (omega)) (fun r46 => ?_)
  simp (disch := omega) only [am_st_o, f1, hy] at r46 ⊢
  refine x_iast_ dX13_goesOf_47 (by first | (exact MdL.k_variables (by assumption)) | (assumption)) (by first | (exact MdL.x_variables (by assumption) (by omega) (by omega)) | (omega)) (by omega) ?_
  refine x_aload_0 dX13_goesOf_48 ?_
  refine x_getR dX13_goesOf_49 fl1626_13 rfl (by first | (exact MdL.k0 (by assumption)) | (assumption)) (by first | (exact MdL.v_variables (by assumption)) | (assumption)) ?_
  refine x_iconst dX13_goesOf_52 ?_
  refine x_iload_2 dX13_goesOf_53 ?_
  refine x_iast_ dX13_goesOf_54 (by first | (exact MdL.k_variables (by assumption)) | (assumption)) (by first | (exact MdL.x_variables (by assumption) (by omega) (by omega)) | (omega)) (by omega) ?_
  refine x_aload_0 dX13_goesOf_55 ?_
  refine x_getR dX13_goesOf_56 fl1626_13 rfl (by first | (exact MdL.k0 (by assumption)) | (assumption)) (by first | (exact MdL.v_variables (by assumption)) | (assumption)) ?_
  refine x_iconst dX13_goesOf_59 ?_
  refine x_iload_3 dX13_goesOf_60 ?_
  refine x_iast_ dX13_goesOf_61 (by first | (exact MdL.k_variables (by assumption)) | (assumption)) (by first | (exact MdL.x_variables (by assumption) (by omega) (by omega)) | (omega)) (by omega) ?_
  refine x_aload_0 dX13_goesOf_62 ?_
  refine x_getR dX13_goesOf_63 fl1626_13 rfl (by first | (exact MdL.k0 (by assumption)) | (assumption)) (by first | (exact MdL.v_variables (by assumption)) | (assumption)) ?_
  refine x_iconst dX13_goesOf_66 ?_
  refine x_aload_0 dX13_goesOf_67 ?_
  refine x_getR dX13_goesOf_68 fl1608_13 rfl (by first | (exact MdL.k0 (by assumption)) | (assumption)) (by first | (exact MdL.v_seed (by assumption)) | (assumption)) ?_
  refine x_aload_0 dX13_goesOf_71 ?_
  refine x_getI_ dX13_goesOf_72 fl1592_13 (by first | (exact MdL.k0 (by assumption)) | (assumption)) (fun r72 => ?_)
  simp (disch := omega) only [am_st_o, f3] at r72 ⊢
  refine x_iald_ dX13_goesOf_75 (by first | (exact MdL.k_seed (by assumption)) | (assumption)) (by first | (exact MdL.x_seed (by assumption) (by omega) (by omega)) | (omega)) (fun r75 => ?_)
  simp (disch := omega) only [am_st_o, f2, hsd] at r75 ⊢
  refine x_bipush dX13_goesOf_76 rfl ?_
  refine x_iload_2 dX13_goesOf_78 ?_
  refine x_imul dX13_goesOf_79 ?_
  refine x_iload_1 dX13_goesOf_80 ?_
  refine x_iadd dX13_goesOf_81 ?_
  refine x_bipush dX13_goesOf_82 rfl ?_
  show am_X G mX13_goesOf _ 84 _ [aI 100, aI (8 * (rM S - lt) + m), aI (tSeed T), aI 4, aR (o + 35)] _ _ _
  refine x_callS3 dX13_goesOf_84 rfl okX13_lotOf q1961 q1962 rfl (C_X13_lotOf ⟨by decide, by decide⟩ (by decide) (x_k1 ?_))
  refine x_iast_ dX13_goesOf_87 (by first | (exact MdL.k_variables (by assumption)) | (assumption)) (by first | (exact MdL.x_variables (by assumption) (by omega) (by omega)) | (omega)) (by exact lotR_rg _ _ _) ?_
  refine x_aload_0 dX13_goesOf_88 ?_
  refine x_getR dX13_goesOf_89 fl1626_13 rfl (by first | (exact MdL.k0 (by assumption)) | (assumption)) (by first | (exact MdL.v_variables (by assumption)) | (assumption)) ?_
  refine x_iconst dX13_goesOf_92 ?_
  refine x_iload_1 dX13_goesOf_93 ?_
  refine x_iast_ dX13_goesOf_94 (by first | (exact MdL.k_variables (by assumption)) | (assumption)) (by first | (exact MdL.x_variables (by assumption) (by omega) (by omega)) | (omega)) (by omega) ?_
  generalize eh4 : am_st (am_st (am_st (am_st (am_st (am_st h1 (o + 35) 0 (rX S m)) (o + 35) 1 (rY S m)) (o + 35) 2 (rM S - lt)) (o + 35) 3 (lng T m - rN S m)) (o + 35) 4 (lotR (tSeed T) (8 * (rM S - lt) + m) 100)) (o + 35) 5 m = h4
  have q1 : ∀ x, x ≠ (o + 35) → h4 x = h1 x := fun x hx => by
    rw [← eh4]
    simp (disch := omega) only [am_st_o]
  have qV : FrV h h4 o := e1.tr (fun x i z => by rw [q1 x z.1])
  have q2 : ∀ j, 0 ≤ j → j < 6 → h4 (o + 35) j = env6 (rX S m) (rY S m) (rM S - lt) (lng T m - rN S m) (lotR (tSeed T) (8 * (rM S - lt) + m) 100) m j := fun j y0 y1 => by
    rw [← eh4]
    simp (disch := omega) only [am_st_at, true_and]
    unfold env6
    (repeat' split) <;> omega
  have f4 : h4 o 18 = s := by rw [q1 _ (by omega)]; exact f3
  have g9 : ∀ j, h4 (o + 25) j = h (o + 25) j := fun j => qV _ _ ⟨by omega, by omega, fun z => by omega⟩
  have g10 : ∀ j, h4 (o + 26) j = h (o + 26) j := fun j => qV _ _ ⟨by omega, by omega, fun z => by omega⟩
  have f5 : rg32 (8 * s + m) := ⟨by omega, by omega⟩
  rcases hlaw with ⟨g1, g2⟩ | ⟨la, g1, g2⟩
  · have e0 : doesR T S m lt = 0 := by unfold doesR; rw [g1]
    refine x_aload_0 dX13_goesOf_95 ?_
    refine x_bipush dX13_goesOf_96 rfl ?_
    refine x_aload_0 dX13_goesOf_98 ?_
    refine x_getI_ dX13_goesOf_99 fl1592_13 (by first | (exact MdL.k0 (by assumption)) | (assumption)) (fun r99 => ?_)
    rw [f4] at r99 ⊢
    refine x_imul dX13_goesOf_102 ?_
    refine x_iload_1 dX13_goesOf_103 ?_
    refine x_iadd dX13_goesOf_104 ?_
    refine x_callV1 dX13_goesOf_105 rfl okX13_tellsBy q1946 q1948 qs84 (by first | assumption | (exact MdL.k0 (by assumption))) am_k13 rfl (C_X13_tellsBy0 (d := d + 3) hL ⟨by omega, by omega⟩ (by rw [g9, g10]; exact g2) (fun h5 y3 => (x_k1 ?_)))
    refine x_istore4 dX13_goesOf_108 rfl ?_
    refine x_iload4 dX13_goesOf_110 ?_
    refine x_if_ge (tgt := 119) dX13_goesOf_112 rfl (by omega) (fun c112 => ?_) (fun c112 => ?_)
    · refine x_iload4 dX13_goesOf_119 ?_
      refine x_bipush dX13_goesOf_121 rfl ?_
      refine x_irem dX13_goesOf_123 (by omega) (by omega) ?_
      refine x_iret dX13_goesOf_124 rfl ?_
      refine x_q1 ?_ (k h5 (qV.tr (fun x i z => y3 x i z.2.2)))
      rw [e0]
      all_goals first | rfl | (exfalso; omega)
    · refine x_iconst dX13_goesOf_115 ?_
      refine x_goto (tgt := 124) dX13_goesOf_116 rfl ?_
      refine x_iret dX13_goesOf_124 rfl ?_
      refine x_q1 ?_ (k h5 (qV.tr (fun x i z => y3 x i z.2.2)))
      rw [e0]
      all_goals first | rfl | (exfalso; omega)
  · have e0 : doesR T S m lt = la (env6 (rX S m) (rY S m) (rM S - lt) (lng T m - rN S m) (lotR (tSeed T) (8 * (rM S - lt) + m) 100) m) % 6 := by unfold doesR; rw [g1]; simp only; rw [if_neg (by omega)]
    have qL : LwB h4 o s (h4 (o + 25) (8 * s + m)) (h4 (o + 26) (8 * s + m)) la := by
      rw [g9, g10]
      exact g2.fr qV.w
    refine x_aload_0 dX13_goesOf_95 ?_
    refine x_bipush dX13_goesOf_96 rfl ?_
    refine x_aload_0 dX13_goesOf_98 ?_
    refine x_getI_ dX13_goesOf_99 fl1592_13 (by first | (exact MdL.k0 (by assumption)) | (assumption)) (fun r99 => ?_)
    rw [f4] at r99 ⊢
    refine x_imul dX13_goesOf_102 ?_
    refine x_iload_1 dX13_goesOf_103 ?_
    refine x_iadd dX13_goesOf_104 ?_
    refine x_callV1 dX13_goesOf_105 rfl okX13_tellsBy q1946 q1948 qs84 (by first | assumption | (exact MdL.k0 (by assumption))) am_k13 rfl (C_X13_tellsBy hL hs ⟨by omega, by omega⟩ qL (fun z h5 y1 y2 y3 => (x_k1 ?_)))
    rw [g2.ext q2] at y2
    refine x_istore4 dX13_goesOf_108 rfl ?_
    refine x_iload4 dX13_goesOf_110 ?_
    refine x_if_ge (tgt := 119) dX13_goesOf_112 rfl (by omega) (fun c112 => ?_) (fun c112 => ?_)
    · refine x_iload4 dX13_goesOf_119 ?_
      refine x_bipush dX13_goesOf_121 rfl ?_
      refine x_irem dX13_goesOf_123 (by omega) (by omega) ?_
      refine x_iret dX13_goesOf_124 rfl ?_
      refine x_q1 ?_ (k h5 (qV.tr (FrV.ofP y3)))
      rw [e0, ← y2]
      first | (rw [if_neg (by omega)]; exact bRem_nn ⟨by omega, by omega⟩ ⟨by decide, by decide⟩) | (rw [if_pos (by omega)]; rfl)
    · refine x_iconst dX13_goesOf_115 ?_
      refine x_goto (tgt := 124) dX13_goesOf_116 rfl ?_
      refine x_iret dX13_goesOf_124 rfl ?_
      refine x_q1 ?_ (k h5 (qV.tr (FrV.ofP y3)))
      rw [e0, ← y2]
      first | (rw [if_neg (by omega)]; exact bRem_nn ⟨by omega, by omega⟩ ⟨by decide, by decide⟩) | (rw [if_pos (by omega)]; rfl)
end MGO
