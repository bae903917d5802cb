/-! THE TWIN READS: its tokens -/
set_option maxRecDepth 100000
def u8 (c : Int) : Int := if c < 0 then c + 256 else c
theorem u8_rg {c : Int} (h : -128 ≤ c ∧ c ≤ 127) : 0 ≤ u8 c ∧ u8 c ≤ 255 := by unfold u8; split <;> omega
theorem u8_L {c : Int} (h : -128 ≤ c ∧ c ≤ 127) : isL (u8 c) = isL c := by
  unfold u8 isL
  split
  · rw [decide_eq_decide]; omega
  · rfl
theorem u8_G {c : Int} (h : -128 ≤ c ∧ c ≤ 127) : isG (u8 c) = isG c := by
  unfold u8 isG
  split
  · rw [decide_eq_decide]; omega
  · rfl
theorem u8_S {c : Int} (h : -128 ≤ c ∧ c ≤ 127) : kdS (u8 c) = kdS c := by
  unfold u8 kdS
  (repeat' split) <;> omega
theorem u8_W {c : Int} (h : -128 ≤ c ∧ c ≤ 127) : isW (u8 c) = isW c := by
  unfold u8 isW
  split
  · rw [decide_eq_decide]; omega
  · rfl
theorem idN_bd {f : Int → Int} : ∀ n : Nat, (∀ i : Nat, i < n → 97 ≤ f i ∧ f i ≤ 122) → 0 ≤ idN f n ∧ idN f n + 1 ≤ 27 ^ n
  | 0, _ => ⟨Int.le_refl 0, by show (0 : Int) + 1 ≤ 27 ^ 0; decide⟩
  | n + 1, h => by
    have h1 := idN_bd n (fun i hi => h i (by omega))
    have h2 := h n (by omega)
    have e : (27 : Int) ^ (n + 1) = 27 * 27 ^ n := by rw [Int.pow_succ, Int.mul_comm]
    show 0 ≤ 27 * idN f n + (f n - 96) ∧ 27 * idN f n + (f n - 96) + 1 ≤ 27 ^ (n + 1)
    rw [e]
    omega
theorem kwN_inj {a c : Int} (ha : 0 ≤ a ∧ a < 17) (hc : 0 ≤ c ∧ c < 17) (e : kwN a = kwN c) : a = c := by
  have key : ∀ i j : Fin 17, kwN (i.val : Int) = kwN (j.val : Int) → i = j := by decide +kernel
  have := key ⟨a.toNat, by omega⟩ ⟨c.toNat, by omega⟩ (by
    show kwN (a.toNat : Int) = kwN (c.toNat : Int)
    rw [show (a.toNat : Int) = a by omega, show (c.toNat : Int) = c by omega]
    exact e)
  have := congrArg (fun q : Fin 17 => q.val) this
  simp only at this
  omega
theorem kwN_bd {a : Int} (ha : 0 ≤ a ∧ a < 17) : 0 ≤ kwN a ∧ kwN a ≤ 400000000 := by
  have key : ∀ i : Fin 17, 0 ≤ kwN (i.val : Int) ∧ kwN (i.val : Int) ≤ 400000000 := by decide +kernel
  have := key ⟨a.toNat, by omega⟩
  simp only at this
  rw [show (a.toNat : Int) = a by omega] at this
  exact this
section MTOK
variable {G : am_G} {L : am_L} {h : am_H} {o D : Int} {b : Int → Int} {d : Nat} {Q : am_O → am_L → am_H → Prop}
/-- the text: D bytes b -/
def TxB (h : am_H) (o D : Int) (b : Int → Int) : Prop := h o 4 = D ∧ (0 ≤ D ∧ D ≤ 2000) ∧ (∀ i, 0 ≤ i → i < D → h (o + 2) i = b i) ∧ ∀ i, 0 ≤ i → i < D → -128 ≤ b i ∧ b i ≤ 127
/-- the byte at i, 0 behind the text -/
def u8A (b : Int → Int) (D i : Int) : Int := if i < D then u8 (b i) else 0
theorem u8A_rg (hT : TxB h o D b) {i : Int} (hi : 0 ≤ i) : 0 ≤ u8A b D i ∧ u8A b D i ≤ 255 := by
  unfold u8A
  split
  · exact u8_rg (hT.2.2.2 i hi (by assumption))
  · omega
theorem u8A_L (hT : TxB h o D b) {i : Int} (hi : 0 ≤ i) : isL (u8A b D i) = true ↔ i < D ∧ isL (b i) = true := by
  unfold u8A
  split
  · rename_i q
    rw [u8_L (hT.2.2.2 i hi q)]
    exact ⟨fun z => ⟨q, z⟩, fun z => z.2⟩
  · exact ⟨fun z => absurd z (by decide), fun z => by omega⟩
theorem u8A_G (hT : TxB h o D b) {i : Int} (hi : 0 ≤ i) : isG (u8A b D i) = true ↔ i < D ∧ isG (b i) = true := by
  unfold u8A
  split
  · rename_i q
    rw [u8_G (hT.2.2.2 i hi q)]
    exact ⟨fun z => ⟨q, z⟩, fun z => z.2⟩
  · exact ⟨fun z => absurd z (by decide), fun z => by omega⟩
theorem C_X13_byteAt {i : Int} (hL : MdL L o) (hT : TxB h o D b) (hi : 0 ≤ i ∧ i ≤ 100000) (k : Q (.inl [aI (u8A b D i)]) L h) : am_C G mX13_byteAt (d + 1) [aR o, aI i] L h Q := by
  obtain ⟨t1, t2, t3, t4⟩ := hT
  refine x_start okX13_byteAt rfl rfl rfl rfl ?_
  refine x_iload_1 dX13_byteAt_0 ?_
  refine x_aload_0 dX13_byteAt_1 ?_
  refine x_getI_ dX13_byteAt_2 fl1578_13 (by first | (exact MdL.k0 (by assumption)) | (assumption)) (fun r2 => ?_)
  rw [t1] at r2 ⊢
  refine x_icmp_ge (tgt := 21) dX13_byteAt_5 rfl (by omega) (by omega) (fun c5 => ?_) (fun c5 => ?_)
  · refine x_iconst dX13_byteAt_21 ?_
    refine x_iret dX13_byteAt_22 rfl ?_
    refine x_q1 ?_ k
    unfold u8A
    first
      | (rw [if_pos (by omega)]
         have := t3 i hi.1 (by omega)
         have := t4 i hi.1 (by omega)
         rw [bAnd_255 (by omega)]
         unfold u8
         (repeat' split) <;> omega)
      | rw [if_neg (by omega)]
  · refine x_aload_0 dX13_byteAt_8 ?_
    refine x_getR dX13_byteAt_9 fl1577_13 rfl (by first | (exact MdL.k0 (by assumption)) | (assumption)) (by first | (exact MdL.v_text (by assumption)) | (assumption)) ?_
    refine x_iload_1 dX13_byteAt_12 ?_
    refine x_bald_ dX13_byteAt_13 (by first | (exact MdL.k_text (by assumption)) | (assumption)) (by first | (exact MdL.x_text (by assumption) (by omega) (by omega)) | (omega)) (fun r13 => ?_)
    refine x_sipush dX13_byteAt_14 rfl ?_
    refine x_iand dX13_byteAt_17 ?_
    refine x_goto (tgt := 22) dX13_byteAt_18 rfl ?_
    refine x_iret dX13_byteAt_22 rfl ?_
    refine x_q1 ?_ k
    unfold u8A
    first
      | (rw [if_pos (by omega)]
         have := t3 i hi.1 (by omega)
         have := t4 i hi.1 (by omega)
         rw [bAnd_255 (by omega)]
         unfold u8
         (repeat' split) <;> omega)
      | rw [if_neg (by omega)]
theorem C_X13_isDigit {c : Int} (hc : 0 ≤ c ∧ c ≤ 255) (k : Q (.inl [aI (if isG c = true then 1 else 0)]) L h) : am_C G mX13_isDigit (d + 1) [aI c] L h Q := by
  refine x_start okX13_isDigit rfl rfl rfl rfl ?_
  have e : (if isG c = true then (1 : Int) else 0) = if 48 ≤ c ∧ c ≤ 57 then 1 else 0 := by
    unfold isG
    simp only [decide_eq_true_eq]
  rw [e] at k
  refine x_iload_0 dX13_isDigit_0 ?_
  refine x_bipush dX13_isDigit_1 rfl ?_
  refine x_icmp_lt (tgt := 16) dX13_isDigit_3 rfl (by omega) (by omega) (fun c3 => ?_) (fun c3 => ?_)
  · refine x_iconst dX13_isDigit_16 ?_
    refine x_zret dX13_isDigit_17 rfl (by omega) ?_
    refine x_q1 ?_ k
    split <;> omega
  · refine x_iload_0 dX13_isDigit_6 ?_
    refine x_bipush dX13_isDigit_7 rfl ?_
    refine x_icmp_gt (tgt := 16) dX13_isDigit_9 rfl (by omega) (by omega) (fun c9 => ?_) (fun c9 => ?_)
    · refine x_iconst dX13_isDigit_16 ?_
      refine x_zret dX13_isDigit_17 rfl (by omega) ?_
      refine x_q1 ?_ k
      split <;> omega
    · refine x_iconst dX13_isDigit_12 ?_
      refine x_goto (tgt := 17) dX13_isDigit_13 rfl ?_
      refine x_zret dX13_isDigit_17 rfl (by omega) ?_
      refine x_q1 ?_ k
      split <;> omega
theorem C_X13_isLetter {c : Int} (hc : 0 ≤ c ∧ c ≤ 255) (k : Q (.inl [aI (if isL c = true then 1 else 0)]) L h) : am_C G mX13_isLetter (d + 1) [aI c] L h Q := by
  refine x_start okX13_isLetter rfl rfl rfl rfl ?_
  have e : (if isL c = true then (1 : Int) else 0) = if 97 ≤ c ∧ c ≤ 122 then 1 else 0 := by
    unfold isL
    simp only [decide_eq_true_eq]
  rw [e] at k
  refine x_iload_0 dX13_isLetter_0 ?_
  refine x_bipush dX13_isLetter_1 rfl ?_
  refine x_icmp_lt (tgt := 16) dX13_isLetter_3 rfl (by omega) (by omega) (fun c3 => ?_) (fun c3 => ?_)
  · refine x_iconst dX13_isLetter_16 ?_
    refine x_zret dX13_isLetter_17 rfl (by omega) ?_
    refine x_q1 ?_ k
    split <;> omega
  · refine x_iload_0 dX13_isLetter_6 ?_
    refine x_bipush dX13_isLetter_7 rfl ?_
    refine x_icmp_gt (tgt := 16) dX13_isLetter_9 rfl (by omega) (by omega) (fun c9 => ?_) (fun c9 => ?_)
    · refine x_iconst dX13_isLetter_16 ?_
      refine x_zret dX13_isLetter_17 rfl (by omega) ?_
      refine x_q1 ?_ k
      split <;> omega
    · refine x_iconst dX13_isLetter_12 ?_
      refine x_goto (tgt := 17) dX13_isLetter_13 rfl ?_
      refine x_zret dX13_isLetter_17 rfl (by omega) ?_
      refine x_q1 ?_ k
      split <;> omega
/-- a token added -/
def adM (h : am_H) (o n k w v nm : Int) : am_H := am_st (am_st (am_st (am_st (am_st h (o + 3) n k) (o + 4) n w) (o + 5) n v) (o + 6) n nm) o 10 (n + 1)
/-- the first n tokens, as the twin holds them -/
def TkM (h : am_H) (o : Int) (b : Int → Int) (D n : Int) : Prop := ∀ i, 0 ≤ i → i < n → h (o + 3) i = sK b D i ∧ h (o + 4) i = sP b D i ∧ (sK b D i = 2 → h (o + 5) i = tkV b D (sP b D i)) ∧ (sK b D i = 1 → h (o + 6) i = tkI b D (sP b D i))
theorem adM_0 {n k w v nm i : Int} : adM h o n k w v nm o i = if i = 10 then n + 1 else h o i := by
  unfold adM
  rw [am_st_at, am_st_o (by omega), am_st_o (by omega), am_st_o (by omega), am_st_o (by omega)]
  simp only [true_and]
theorem adM_3 {n k w v nm i : Int} : adM h o n k w v nm (o + 3) i = if i = n then k else h (o + 3) i := by
  unfold adM
  rw [am_st_o (by omega), am_st_o (by omega), am_st_o (by omega), am_st_o (by omega), am_st_at]
  simp only [true_and]
theorem adM_4 {n k w v nm i : Int} : adM h o n k w v nm (o + 4) i = if i = n then w else h (o + 4) i := by
  unfold adM
  rw [am_st_o (by omega), am_st_o (by omega), am_st_o (by omega), am_st_at, am_st_o (by omega)]
  simp only [true_and]
theorem adM_5 {n k w v nm i : Int} : adM h o n k w v nm (o + 5) i = if i = n then v else h (o + 5) i := by
  unfold adM
  rw [am_st_o (by omega), am_st_o (by omega), am_st_at, am_st_o (by omega), am_st_o (by omega)]
  simp only [true_and]
theorem adM_6 {n k w v nm i : Int} : adM h o n k w v nm (o + 6) i = if i = n then nm else h (o + 6) i := by
  unfold adM
  rw [am_st_o (by omega), am_st_at, am_st_o (by omega), am_st_o (by omega), am_st_o (by omega)]
  simp only [true_and]
theorem adM_o {n k w v nm y : Int} (h0 : y ≠ o) (h3 : y < o + 3 ∨ o + 6 < y) : adM h o n k w v nm y = h y := by
  unfold adM
  rw [am_st_o h0, am_st_o (by omega), am_st_o (by omega), am_st_o (by omega), am_st_o (by omega)]
theorem TkM.add {n k w v nm : Int} (r : TkM h o b D n) (hn : 0 ≤ n) (h3 : k = sK b D n) (h4 : w = sP b D n) (h5 : sK b D n = 2 → v = tkV b D (sP b D n)) (h6 : sK b D n = 1 → nm = tkI b D (sP b D n)) : TkM (adM h o n k w v nm) o b D (n + 1) := fun i z0 z1 => by
  rw [adM_3, adM_4, adM_5, adM_6]
  by_cases q : i = n
  · subst q
    rw [if_pos rfl, if_pos rfl, if_pos rfl, if_pos rfl]
    exact ⟨h3, h4, h5, h6⟩
  · rw [if_neg q, if_neg q, if_neg q, if_neg q]
    exact r i z0 (by omega)
theorem TxB.add {n k w v nm : Int} (hT : TxB h o D b) : TxB (adM h o n k w v nm) o D b := by
  obtain ⟨t1, t2, t3, t4⟩ := hT
  refine ⟨?_, t2, fun i z0 z1 => ?_, t4⟩
  · rw [adM_0, if_neg (by decide)]
    exact t1
  · rw [adM_o (by omega) (by omega)]
    exact t3 i z0 z1
theorem C_X13_token {n k w v nm : Int} (hL : MdL L o) (hn : h o 10 = n) (hnn : 0 ≤ n ∧ n ≤ 400) (hk : rg32 k) (hw : rg32 w) (hv : rg32 v) (hnm : rg64 nm) (kk : Q (.inl []) L (adM h o n k w v nm)) : am_C G mX13_token (d + 1) [aR o, aI k, aI w, aI v, aL nm] L h Q := by
  refine x_start okX13_token rfl rfl rfl rfl ?_
  refine x_aload_0 dX13_token_0 ?_
  refine x_getR dX13_token_1 fl1579_13 rfl (by first | (exact MdL.k0 (by assumption)) | (assumption)) (by first | (exact MdL.v_tKind (by assumption)) | (assumption)) ?_
  refine x_aload_0 dX13_token_4 ?_
  refine x_getI_ dX13_token_5 fl1584_13 (by first | (exact MdL.k0 (by assumption)) | (assumption)) (fun r5 => ?_)
  simp (disch := omega) only [am_st_o, hn] at r5 ⊢
  refine x_iload_1 dX13_token_8 ?_
  refine x_iast_ dX13_token_9 (by first | (exact MdL.k_tKind (by assumption)) | (assumption)) (by first | (exact MdL.x_tKind (by assumption) (by omega) (by omega)) | (omega)) (by exact hk) ?_
  refine x_aload_0 dX13_token_10 ?_
  refine x_getR dX13_token_11 fl1580_13 rfl (by first | (exact MdL.k0 (by assumption)) | (assumption)) (by first | (exact MdL.v_tPlace (by assumption)) | (assumption)) ?_
  refine x_aload_0 dX13_token_14 ?_
  refine x_getI_ dX13_token_15 fl1584_13 (by first | (exact MdL.k0 (by assumption)) | (assumption)) (fun r15 => ?_)
  simp (disch := omega) only [am_st_o, hn] at r15 ⊢
  refine x_iload_2 dX13_token_18 ?_
  refine x_iast_ dX13_token_19 (by first | (exact MdL.k_tPlace (by assumption)) | (assumption)) (by first | (exact MdL.x_tPlace (by assumption) (by omega) (by omega)) | (omega)) (by exact hw) ?_
  refine x_aload_0 dX13_token_20 ?_
  refine x_getR dX13_token_21 fl1581_13 rfl (by first | (exact MdL.k0 (by assumption)) | (assumption)) (by first | (exact MdL.v_tValue (by assumption)) | (assumption)) ?_
  refine x_aload_0 dX13_token_24 ?_
  refine x_getI_ dX13_token_25 fl1584_13 (by first | (exact MdL.k0 (by assumption)) | (assumption)) (fun r25 => ?_)
  simp (disch := omega) only [am_st_o, hn] at r25 ⊢
  refine x_iload_3 dX13_token_28 ?_
  refine x_iast_ dX13_token_29 (by first | (exact MdL.k_tValue (by assumption)) | (assumption)) (by first | (exact MdL.x_tValue (by assumption) (by omega) (by omega)) | (omega)) (by exact hv) ?_
  refine x_aload_0 dX13_token_30 ?_
  refine x_getR dX13_token_31 fl1582_13 rfl (by first | (exact MdL.k0 (by assumption)) | (assumption)) (by first | (exact MdL.v_tName (by assumption)) | (assumption)) ?_
  refine x_aload_0 dX13_token_34 ?_
  refine x_getI_ dX13_token_35 fl1584_13 (by first | (exact MdL.k0 (by assumption)) | (assumption)) (fun r35 => ?_)
  simp (disch := omega) only [am_st_o, hn] at r35 ⊢
  refine x_lload4 dX13_token_38 ?_
  refine x_last_ dX13_token_40 (by first | (exact MdL.k_tName (by assumption)) | (assumption)) (by first | (exact MdL.x_tName (by assumption) (by omega) (by omega)) | (omega)) (by exact hnm) ?_
  refine x_aload_0 dX13_token_41 ?_
  refine x_dup dX13_token_42 rfl ?_
  refine x_getI_ dX13_token_43 fl1584_13 (by first | (exact MdL.k0 (by assumption)) | (assumption)) (fun r43 => ?_)
  simp (disch := omega) only [am_st_o, hn] at r43 ⊢
  refine x_iconst dX13_token_46 ?_
  refine x_iadd dX13_token_47 ?_
  refine x_putI_ dX13_token_48 fl1584_13 (by first | (exact MdL.k0 (by assumption)) | (assumption)) (by omega) ?_
  refine x_ret dX13_token_51 rfl ?_
  exact kk
theorem C_X13_sign {n i e c : Int} (hL : MdL L o) (hn : h o 10 = n) (hnn : 0 ≤ n ∧ n ≤ 400) (hi : rg32 i) (hc : 0 ≤ c ∧ c ≤ 255) (kk : Q (.inl [aI 1]) L (adM h o n (kdS c) i 0 0)) : am_C G mX13_sign (d + 2) [aR o, aI i, aI c, aI e] L h Q := by
  have hkr := kdS_rg c
  have hend : ∀ z : Int, z = kdS c → am_X G mX13_sign (d + 2) 95 [aR o, aI i, aI c, aI e, aI z] [] L h Q := by
    intro z hz
    subst hz
    refine x_aload_0 dX13_sign_95 ?_
    refine x_iload4 dX13_sign_96 ?_
    refine x_iload_1 dX13_sign_98 ?_
    refine x_iconst dX13_sign_99 ?_
    refine x_lconst dX13_sign_100 ?_
    refine x_callV4 dX13_sign_101 rfl okX13_token q1825 q1827 qs58 (by first | assumption | (exact MdL.k0 (by assumption))) am_k13 rfl (C_X13_token hL hn hnn ⟨by omega, by omega⟩ hi ⟨by decide, by decide⟩ ⟨by decide, by decide⟩ (x_k0 ?_))
    refine x_iconst dX13_sign_104 ?_
    refine x_iret dX13_sign_105 rfl ?_
    exact kk
  have h45 : ∀ z : Int, z = (if c = 59 then 4 else if c = 61 then 5 else if c = 40 then 6 else if c = 41 then 7 else 3) → am_X G mX13_sign (d + 2) 45 [aR o, aI i, aI c, aI e, aI z] [] L h Q := by
    intro z hz
    have hz9 : z ≤ 7 := by rw [hz]; (repeat' split) <;> omega
    refine x_iload_2 dX13_sign_45 ?_
    refine x_bipush dX13_sign_46 rfl ?_
    refine x_icmp_ne (tgt := 55) dX13_sign_48 rfl (by omega) (by omega) (fun c48 => ?_) (fun c48 => ?_)
    · refine x_iload_2 dX13_sign_55 ?_
      refine x_bipush dX13_sign_56 rfl ?_
      refine x_icmp_ne (tgt := 65) dX13_sign_58 rfl (by omega) (by omega) (fun c58 => ?_) (fun c58 => ?_)
      · refine x_iload_2 dX13_sign_65 ?_
        refine x_bipush dX13_sign_66 rfl ?_
        refine x_icmp_ne (tgt := 75) dX13_sign_68 rfl (by omega) (by omega) (fun c68 => ?_) (fun c68 => ?_)
        · refine x_iload_2 dX13_sign_75 ?_
          refine x_bipush dX13_sign_76 rfl ?_
          refine x_icmp_ne (tgt := 85) dX13_sign_78 rfl (by omega) (by omega) (fun c78 => ?_) (fun c78 => ?_)
          · refine x_iload_2 dX13_sign_85 ?_
            refine x_bipush dX13_sign_86 rfl ?_
            refine x_icmp_ne (tgt := 95) dX13_sign_88 rfl (by omega) (by omega) (fun c88 => ?_) (fun c88 => ?_)
            · refine hend _ ?_
              unfold kdS
              first
                | (rw [hz]; (repeat' split) <;> omega)
                | ((repeat' split) <;> omega)
            · refine x_bipush dX13_sign_91 rfl ?_
              refine x_istore4 dX13_sign_93 rfl ?_
              refine hend _ ?_
              unfold kdS
              first
                | (rw [hz]; (repeat' split) <;> omega)
                | ((repeat' split) <;> omega)
          · refine x_bipush dX13_sign_81 rfl ?_
            refine x_istore4 dX13_sign_83 rfl ?_
            refine x_iload_2 dX13_sign_85 ?_
            refine x_bipush dX13_sign_86 rfl ?_
            refine x_icmp_ne (tgt := 95) dX13_sign_88 rfl (by omega) (by omega) (fun c88 => ?_) (fun c88 => ?_)
            · refine hend _ ?_
              unfold kdS
              first
                | (rw [hz]; (repeat' split) <;> omega)
                | ((repeat' split) <;> omega)
            · refine x_bipush dX13_sign_91 rfl ?_
              refine x_istore4 dX13_sign_93 rfl ?_
              refine hend _ ?_
              unfold kdS
              first
                | (rw [hz]; (repeat' split) <;> omega)
                | ((repeat' split) <;> omega)
        · refine x_bipush dX13_sign_71 rfl ?_
          refine x_istore4 dX13_sign_73 rfl ?_
          refine x_iload_2 dX13_sign_75 ?_
          refine x_bipush dX13_sign_76 rfl ?_
          refine x_icmp_ne (tgt := 85) dX13_sign_78 rfl (by omega) (by omega) (fun c78 => ?_) (fun c78 => ?_)
          · refine x_iload_2 dX13_sign_85 ?_
            refine x_bipush dX13_sign_86 rfl ?_
            refine x_icmp_ne (tgt := 95) dX13_sign_88 rfl (by omega) (by omega) (fun c88 => ?_) (fun c88 => ?_)
            · refine hend _ ?_
              unfold kdS
              first
                | (rw [hz]; (repeat' split) <;> omega)
                | ((repeat' split) <;> omega)
            · refine x_bipush dX13_sign_91 rfl ?_
              refine x_istore4 dX13_sign_93 rfl ?_
              refine hend _ ?_
              unfold kdS
              first
                | (rw [hz]; (repeat' split) <;> omega)
                | ((repeat' split) <;> omega)
          · refine x_bipush dX13_sign_81 rfl ?_
            refine x_istore4 dX13_sign_83 rfl ?_
            refine x_iload_2 dX13_sign_85 ?_
            refine x_bipush dX13_sign_86 rfl ?_
            refine x_icmp_ne (tgt := 95) dX13_sign_88 rfl (by omega) (by omega) (fun c88 => ?_) (fun c88 => ?_)
            · refine hend _ ?_
              unfold kdS
              first
                | (rw [hz]; (repeat' split) <;> omega)
                | ((repeat' split) <;> omega)
            · refine x_bipush dX13_sign_91 rfl ?_
              refine x_istore4 dX13_sign_93 rfl ?_
              refine hend _ ?_
              unfold kdS
              first
                | (rw [hz]; (repeat' split) <;> omega)
                | ((repeat' split) <;> omega)
      · refine x_bipush dX13_sign_61 rfl ?_
        refine x_istore4 dX13_sign_63 rfl ?_
        refine x_iload_2 dX13_sign_65 ?_
        refine x_bipush dX13_sign_66 rfl ?_
        refine x_icmp_ne (tgt := 75) dX13_sign_68 rfl (by omega) (by omega) (fun c68 => ?_) (fun c68 => ?_)
        · refine x_iload_2 dX13_sign_75 ?_
          refine x_bipush dX13_sign_76 rfl ?_
          refine x_icmp_ne (tgt := 85) dX13_sign_78 rfl (by omega) (by omega) (fun c78 => ?_) (fun c78 => ?_)
          · refine x_iload_2 dX13_sign_85 ?_
            refine x_bipush dX13_sign_86 rfl ?_
            refine x_icmp_ne (tgt := 95) dX13_sign_88 rfl (by omega) (by omega) (fun c88 => ?_) (fun c88 => ?_)
            · refine hend _ ?_
              unfold kdS
              first
                | (rw [hz]; (repeat' split) <;> omega)
                | ((repeat' split) <;> omega)
            · refine x_bipush dX13_sign_91 rfl ?_
              refine x_istore4 dX13_sign_93 rfl ?_
              refine hend _ ?_
              unfold kdS
              first
                | (rw [hz]; (repeat' split) <;> omega)
                | ((repeat' split) <;> omega)
          · refine x_bipush dX13_sign_81 rfl ?_
            refine x_istore4 dX13_sign_83 rfl ?_
            refine x_iload_2 dX13_sign_85 ?_
            refine x_bipush dX13_sign_86 rfl ?_
            refine x_icmp_ne (tgt := 95) dX13_sign_88 rfl (by omega) (by omega) (fun c88 => ?_) (fun c88 => ?_)
            · refine hend _ ?_
              unfold kdS
              first
                | (rw [hz]; (repeat' split) <;> omega)
                | ((repeat' split) <;> omega)
            · refine x_bipush dX13_sign_91 rfl ?_
              refine x_istore4 dX13_sign_93 rfl ?_
              refine hend _ ?_
              unfold kdS
              first
                | (rw [hz]; (repeat' split) <;> omega)
                | ((repeat' split) <;> omega)
        · refine x_bipush dX13_sign_71 rfl ?_
          refine x_istore4 dX13_sign_73 rfl ?_
          refine x_iload_2 dX13_sign_75 ?_
          refine x_bipush dX13_sign_76 rfl ?_
          refine x_icmp_ne (tgt := 85) dX13_sign_78 rfl (by omega) (by omega) (fun c78 => ?_) (fun c78 => ?_)
          · refine x_iload_2 dX13_sign_85 ?_
            refine x_bipush dX13_sign_86 rfl ?_
            refine x_icmp_ne (tgt := 95) dX13_sign_88 rfl (by omega) (by omega) (fun c88 => ?_) (fun c88 => ?_)
            · refine hend _ ?_
              unfold kdS
              first
                | (rw [hz]; (repeat' split) <;> omega)
                | ((repeat' split) <;> omega)
            · refine x_bipush dX13_sign_91 rfl ?_
              refine x_istore4 dX13_sign_93 rfl ?_
              refine hend _ ?_
              unfold kdS
              first
                | (rw [hz]; (repeat' split) <;> omega)
                | ((repeat' split) <;> omega)
          · refine x_bipush dX13_sign_81 rfl ?_
            refine x_istore4 dX13_sign_83 rfl ?_
            refine x_iload_2 dX13_sign_85 ?_
            refine x_bipush dX13_sign_86 rfl ?_
            refine x_icmp_ne (tgt := 95) dX13_sign_88 rfl (by omega) (by omega) (fun c88 => ?_) (fun c88 => ?_)
            · refine hend _ ?_
              unfold kdS
              first
                | (rw [hz]; (repeat' split) <;> omega)
                | ((repeat' split) <;> omega)
            · refine x_bipush dX13_sign_91 rfl ?_
              refine x_istore4 dX13_sign_93 rfl ?_
              refine hend _ ?_
              unfold kdS
              first
                | (rw [hz]; (repeat' split) <;> omega)
                | ((repeat' split) <;> omega)
    · refine x_bipush dX13_sign_51 rfl ?_
      refine x_istore4 dX13_sign_53 rfl ?_
      refine x_iload_2 dX13_sign_55 ?_
      refine x_bipush dX13_sign_56 rfl ?_
      refine x_icmp_ne (tgt := 65) dX13_sign_58 rfl (by omega) (by omega) (fun c58 => ?_) (fun c58 => ?_)
      · refine x_iload_2 dX13_sign_65 ?_
        refine x_bipush dX13_sign_66 rfl ?_
        refine x_icmp_ne (tgt := 75) dX13_sign_68 rfl (by omega) (by omega) (fun c68 => ?_) (fun c68 => ?_)
        · refine x_iload_2 dX13_sign_75 ?_
          refine x_bipush dX13_sign_76 rfl ?_
          refine x_icmp_ne (tgt := 85) dX13_sign_78 rfl (by omega) (by omega) (fun c78 => ?_) (fun c78 => ?_)
          · refine x_iload_2 dX13_sign_85 ?_
            refine x_bipush dX13_sign_86 rfl ?_
            refine x_icmp_ne (tgt := 95) dX13_sign_88 rfl (by omega) (by omega) (fun c88 => ?_) (fun c88 => ?_)
            · refine hend _ ?_
              unfold kdS
              first
                | (rw [hz]; (repeat' split) <;> omega)
                | ((repeat' split) <;> omega)
            · refine x_bipush dX13_sign_91 rfl ?_
              refine x_istore4 dX13_sign_93 rfl ?_
              refine hend _ ?_
              unfold kdS
              first
                | (rw [hz]; (repeat' split) <;> omega)
                | ((repeat' split) <;> omega)
          · refine x_bipush dX13_sign_81 rfl ?_
            refine x_istore4 dX13_sign_83 rfl ?_
            refine x_iload_2 dX13_sign_85 ?_
            refine x_bipush dX13_sign_86 rfl ?_
            refine x_icmp_ne (tgt := 95) dX13_sign_88 rfl (by omega) (by omega) (fun c88 => ?_) (fun c88 => ?_)
            · refine hend _ ?_
              unfold kdS
              first
                | (rw [hz]; (repeat' split) <;> omega)
                | ((repeat' split) <;> omega)
            · refine x_bipush dX13_sign_91 rfl ?_
              refine x_istore4 dX13_sign_93 rfl ?_
              refine hend _ ?_
              unfold kdS
              first
                | (rw [hz]; (repeat' split) <;> omega)
                | ((repeat' split) <;> omega)
        · refine x_bipush dX13_sign_71 rfl ?_
          refine x_istore4 dX13_sign_73 rfl ?_
          refine x_iload_2 dX13_sign_75 ?_
          refine x_bipush dX13_sign_76 rfl ?_
          refine x_icmp_ne (tgt := 85) dX13_sign_78 rfl (by omega) (by omega) (fun c78 => ?_) (fun c78 => ?_)
          · refine x_iload_2 dX13_sign_85 ?_
            refine x_bipush dX13_sign_86 rfl ?_
            refine x_icmp_ne (tgt := 95) dX13_sign_88 rfl (by omega) (by omega) (fun c88 => ?_) (fun c88 => ?_)
            · refine hend _ ?_
              unfold kdS
              first
                | (rw [hz]; (repeat' split) <;> omega)
                | ((repeat' split) <;> omega)
            · refine x_bipush dX13_sign_91 rfl ?_
              refine x_istore4 dX13_sign_93 rfl ?_
              refine hend _ ?_
              unfold kdS
              first
                | (rw [hz]; (repeat' split) <;> omega)
                | ((repeat' split) <;> omega)
          · refine x_bipush dX13_sign_81 rfl ?_
            refine x_istore4 dX13_sign_83 rfl ?_
            refine x_iload_2 dX13_sign_85 ?_
            refine x_bipush dX13_sign_86 rfl ?_
            refine x_icmp_ne (tgt := 95) dX13_sign_88 rfl (by omega) (by omega) (fun c88 => ?_) (fun c88 => ?_)
            · refine hend _ ?_
              unfold kdS
              first
                | (rw [hz]; (repeat' split) <;> omega)
                | ((repeat' split) <;> omega)
            · refine x_bipush dX13_sign_91 rfl ?_
              refine x_istore4 dX13_sign_93 rfl ?_
              refine hend _ ?_
              unfold kdS
              first
                | (rw [hz]; (repeat' split) <;> omega)
                | ((repeat' split) <;> omega)
      · refine x_bipush dX13_sign_61 rfl ?_
        refine x_istore4 dX13_sign_63 rfl ?_
        refine x_iload_2 dX13_sign_65 ?_
        refine x_bipush dX13_sign_66 rfl ?_
        refine x_icmp_ne (tgt := 75) dX13_sign_68 rfl (by omega) (by omega) (fun c68 => ?_) (fun c68 => ?_)
        · refine x_iload_2 dX13_sign_75 ?_
          refine x_bipush dX13_sign_76 rfl ?_
          refine x_icmp_ne (tgt := 85) dX13_sign_78 rfl (by omega) (by omega) (fun c78 => ?_) (fun c78 => ?_)
          · refine x_iload_2 dX13_sign_85 ?_
            refine x_bipush dX13_sign_86 rfl ?_
            refine x_icmp_ne (tgt := 95) dX13_sign_88 rfl (by omega) (by omega) (fun c88 => ?_) (fun c88 => ?_)
            · refine hend _ ?_
              unfold kdS
              first
                | (rw [hz]; (repeat' split) <;> omega)
                | ((repeat' split) <;> omega)
            · refine x_bipush dX13_sign_91 rfl ?_
              refine x_istore4 dX13_sign_93 rfl ?_
              refine hend _ ?_
              unfold kdS
              first
                | (rw [hz]; (repeat' split) <;> omega)
                | ((repeat' split) <;> omega)
          · refine x_bipush dX13_sign_81 rfl ?_
            refine x_istore4 dX13_sign_83 rfl ?_
            refine x_iload_2 dX13_sign_85 ?_
            refine x_bipush dX13_sign_86 rfl ?_
            refine x_icmp_ne (tgt := 95) dX13_sign_88 rfl (by omega) (by omega) (fun c88 => ?_) (fun c88 => ?_)
            · refine hend _ ?_
              unfold kdS
              first
                | (rw [hz]; (repeat' split) <;> omega)
                | ((repeat' split) <;> omega)
            · refine x_bipush dX13_sign_91 rfl ?_
              refine x_istore4 dX13_sign_93 rfl ?_
              refine hend _ ?_
              unfold kdS
              first
                | (rw [hz]; (repeat' split) <;> omega)
                | ((repeat' split) <;> omega)
        · refine x_bipush dX13_sign_71 rfl ?_
          refine x_istore4 dX13_sign_73 rfl ?_
          refine x_iload_2 dX13_sign_75 ?_
          refine x_bipush dX13_sign_76 rfl ?_
          refine x_icmp_ne (tgt := 85) dX13_sign_78 rfl (by omega) (by omega) (fun c78 => ?_) (fun c78 => ?_)
          · refine x_iload_2 dX13_sign_85 ?_
            refine x_bipush dX13_sign_86 rfl ?_
            refine x_icmp_ne (tgt := 95) dX13_sign_88 rfl (by omega) (by omega) (fun c88 => ?_) (fun c88 => ?_)
            · refine hend _ ?_
              unfold kdS
              first
                | (rw [hz]; (repeat' split) <;> omega)
                | ((repeat' split) <;> omega)
            · refine x_bipush dX13_sign_91 rfl ?_
              refine x_istore4 dX13_sign_93 rfl ?_
              refine hend _ ?_
              unfold kdS
              first
                | (rw [hz]; (repeat' split) <;> omega)
                | ((repeat' split) <;> omega)
          · refine x_bipush dX13_sign_81 rfl ?_
            refine x_istore4 dX13_sign_83 rfl ?_
            refine x_iload_2 dX13_sign_85 ?_
            refine x_bipush dX13_sign_86 rfl ?_
            refine x_icmp_ne (tgt := 95) dX13_sign_88 rfl (by omega) (by omega) (fun c88 => ?_) (fun c88 => ?_)
            · refine hend _ ?_
              unfold kdS
              first
                | (rw [hz]; (repeat' split) <;> omega)
                | ((repeat' split) <;> omega)
            · refine x_bipush dX13_sign_91 rfl ?_
              refine x_istore4 dX13_sign_93 rfl ?_
              refine hend _ ?_
              unfold kdS
              first
                | (rw [hz]; (repeat' split) <;> omega)
                | ((repeat' split) <;> omega)
  refine x_start okX13_sign rfl rfl rfl rfl ?_
  refine x_iload_2 dX13_sign_0 ?_
  refine x_bipush dX13_sign_1 rfl ?_
  refine x_icmp_ne (tgt := 10) dX13_sign_3 rfl (by omega) (by omega) (fun c3 => ?_) (fun c3 => ?_)
  · refine x_iload_2 dX13_sign_10 ?_
    refine x_bipush dX13_sign_11 rfl ?_
    refine x_icmp_ne (tgt := 20) dX13_sign_13 rfl (by omega) (by omega) (fun c13 => ?_) (fun c13 => ?_)
    · refine x_iload_2 dX13_sign_20 ?_
      refine x_bipush dX13_sign_21 rfl ?_
      refine x_icmp_ne (tgt := 31) dX13_sign_23 rfl (by omega) (by omega) (fun c23 => ?_) (fun c23 => ?_)
      · refine x_iload_2 dX13_sign_31 ?_
        refine x_bipush dX13_sign_32 rfl ?_
        refine x_icmp_ne (tgt := 42) dX13_sign_34 rfl (by omega) (by omega) (fun c34 => ?_) (fun c34 => ?_)
        · refine x_iconst dX13_sign_42 ?_
          refine x_istore4 dX13_sign_43 rfl ?_
          refine h45 _ ?_
          (repeat' split) <;> omega
        · refine x_bipush dX13_sign_37 rfl ?_
          refine x_goto (tgt := 43) dX13_sign_39 rfl ?_
          refine x_istore4 dX13_sign_43 rfl ?_
          refine h45 _ ?_
          (repeat' split) <;> omega
      · refine x_bipush dX13_sign_26 rfl ?_
        refine x_goto (tgt := 43) dX13_sign_28 rfl ?_
        refine x_istore4 dX13_sign_43 rfl ?_
        refine h45 _ ?_
        (repeat' split) <;> omega
    · refine x_iconst dX13_sign_16 ?_
      refine x_goto (tgt := 43) dX13_sign_17 rfl ?_
      refine x_istore4 dX13_sign_43 rfl ?_
      refine h45 _ ?_
      (repeat' split) <;> omega
  · refine x_iconst dX13_sign_6 ?_
    refine x_goto (tgt := 43) dX13_sign_7 rfl ?_
    refine x_istore4 dX13_sign_43 rfl ?_
    refine h45 _ ?_
    (repeat' split) <;> omega
end MTOK
