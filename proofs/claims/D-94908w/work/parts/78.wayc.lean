/-! WAYS by all errands: ThreadTown's side -/
set_option maxRecDepth 100000
theorem two_pw {E : Int} (h : 0 ≤ E ∧ E ≤ 6) : bShl 1 E = ((2 ^ E.toNat : Nat) : Int) ∧ 2 ^ E.toNat ≤ 64 ∧ 1 ≤ 2 ^ E.toNat := by
  obtain ⟨n, rfl, hn⟩ := nat_lt (n := 7) (a := E) ⟨h.1, by omega⟩
  refine ⟨tb1 tb_shl hn, Nat.le_trans (Nat.pow_le_pow_right (by decide) (show n ≤ 6 by omega)) (by decide), Nat.one_le_two_pow⟩
theorem bt_tb {a k : Nat} (ha : a < 64) (hk : k < 6) : bt (a : Int) (k : Int) = if a.testBit k = true then 1 else 0 := tb2 tb_bt (a := a) (c := k) (by omega) (by omega)
theorem tb_full3 {e k : Nat} (h : k < e) : (2 ^ e - 1).testBit k = true := by
  rw [Nat.testBit_two_pow_sub_one]
  exact decide_eq_true h
theorem getD_app (l l' : List Int) (i : Nat) (h : i < l.length) : (l ++ l').getD i 0 = l.getD i 0 := by
  rw [List.getD_eq_getElem?_getD, List.getD_eq_getElem?_getD, List.getElem?_append_left h]
theorem accK_bd {ex ey : Int → Int} {e : Nat} (he : e ≤ 6) {a : Nat} {u v : Int} (h64 : a < 64) (ha : a < 2 ^ e) (hx : ∀ k : Nat, k < e → (0 ≤ ex k ∧ ex k ≤ 11) ∧ (0 ≤ ey k ∧ ey k ≤ 11)) (hu : 0 ≤ u ∧ u ≤ 11) (hv : 0 ≤ v ∧ v ≤ 11) (n : Nat) (hn : n ≤ e) : 0 ≤ accK ex ey e a u v n ∧ accK ex ey e a u v n ≤ 1000000 := by
  induction n with
  | zero => exact ⟨by show (0 : Int) ≤ 1000000; decide, Int.le_refl _⟩
  | succ n ih =>
    have h0 := ih (by omega)
    cases ht : a.testBit n
    · rw [accK_f ht]
      exact h0
    · have h1 := wyV_nn (ex := ex) (ey := ey) he 64 (a - 2 ^ n) (ex n) (ey n) (Nat.lt_of_le_of_lt (Nat.sub_le _ _) ha) (Nat.lt_of_le_of_lt (Nat.sub_le _ _) h64)
      have h2 := wyV_bd (ex := ex) (ey := ey) he hx 64 (a - 2 ^ n) (ex n) (ey n) (Nat.lt_of_le_of_lt (Nat.sub_le _ _) ha) (Nat.lt_of_le_of_lt (Nat.sub_le _ _) h64) (hx n (by omega)).1 (hx n (by omega)).2
      have h3 := apa_nn u (ex n)
      have h4 := apa_nn v (ey n)
      have h5 := apa_bd hu (hx n (by omega)).1
      have h6 := apa_bd hv (hx n (by omega)).2
      rw [accK_t he h64 ha ht (by omega)]
      split <;> omega
section WAYC
variable {G : am_G} {d : Nat} {L : am_L} {h h' : am_H} {Q : am_O → am_L → am_H → Prop} {x o s t : Int} {T : Txt} {S : Row} {b q : Int}
/-- the shortest way of a set of errands from one of them; from a corner -/
def lfR (T : Txt) (m : Int) (a : Nat) (j : Int) : Int := (wyV (tEX T m) (tEY T m) (tE T m).toNat 64 a (tEX T m j) (tEY T m j)).1
def wyR (T : Txt) (m u v : Int) : Int × List Int := wyV (tEX T m) (tEY T m) (tE T m).toNat 64 (2 ^ (tE T m).toNat - 1) u v
theorem erd_in (hT : TxtI T) {m : Int} (hm : 0 ≤ m ∧ m < tM T) {k : Int} (hk : 0 ≤ k ∧ k < tE T m) : (0 ≤ tEX T m k ∧ tEX T m k ≤ 11) ∧ (0 ≤ tEY T m k ∧ tEY T m k ≤ 11) := by
  have := (hT.2.2.2.2.2.1 m hm.1 hm.2).2.2.2.1 k hk.1 hk.2
  unfold inT at this
  have := hT.2.1
  have := hT.2.2.1
  omega
theorem erd_n (hT : TxtI T) {m : Int} (hm : 0 ≤ m ∧ m < tM T) : (0 ≤ tE T m ∧ tE T m ≤ 6) ∧ (tE T m).toNat ≤ 6 ∧ ∀ k : Nat, k < (tE T m).toNat → (0 ≤ tEX T m k ∧ tEX T m k ≤ 11) ∧ (0 ≤ tEY T m k ∧ tEY T m k ≤ 11) := by
  have h1 := (hT.2.2.2.2.2.1 m hm.1 hm.2).2.2.1
  exact ⟨h1, by omega, fun k hk => erd_in hT hm ⟨by omega, by omega⟩⟩
theorem lfR_bd (hT : TxtI T) {m : Int} (hm : 0 ≤ m ∧ m < tM T) {a : Nat} (ha : a < 2 ^ (tE T m).toNat) {j : Int} (hj : 0 ≤ j ∧ j < tE T m) : 0 ≤ lfR T m a j ∧ lfR T m a j ≤ 1408 := by
  obtain ⟨h1, h2, h3⟩ := erd_n hT hm
  have h64 := (two_pw h1).2.1
  have hj2 := erd_in hT hm hj
  have := wyV_nn (ex := tEX T m) (ey := tEY T m) h2 64 a (tEX T m j) (tEY T m j) ha (by omega)
  have := wyV_bd (ex := tEX T m) (ey := tEY T m) h2 h3 64 a (tEX T m j) (tEY T m j) ha (by omega) hj2.1 hj2.2
  unfold lfR
  omega
theorem wyR_bd (hT : TxtI T) {m : Int} (hm : 0 ≤ m ∧ m < tM T) {u v : Int} (hu : 0 ≤ u ∧ u ≤ 11) (hv : 0 ≤ v ∧ v ≤ 11) : 0 ≤ (wyR T m u v).1 ∧ (wyR T m u v).1 ≤ 1408 := by
  obtain ⟨h1, h2, h3⟩ := erd_n hT hm
  obtain ⟨-, h64, h0⟩ := two_pw h1
  have := wyV_nn (ex := tEX T m) (ey := tEY T m) h2 64 (2 ^ (tE T m).toNat - 1) u v (by omega) (by omega)
  have := wyV_bd (ex := tEX T m) (ey := tEY T m) h2 h3 64 (2 ^ (tE T m).toNat - 1) u v (by omega) (by omega) hu hv
  unfold wyR
  omega
/-- all that left tells of a man -/
def leftP (T : Txt) (h : am_H) (x m : Int) : Prop := ∀ (a : Nat) (j : Int), a < 2 ^ (tE T m).toNat → 0 ≤ j → j < tE T m → h (x + 184 + (a : Int)) j = lfR T m a j
/-- nothing but left was written -/
def FrL (h h' : am_H) (x : Int) : Prop := ∀ a, (a < x + 184 ∨ x + 248 ≤ a) → h' a = h a
theorem FrL.rf (h : am_H) (x : Int) : FrL h h x := fun _ _ => rfl
theorem FrL.tr {h1 h2 : am_H} (a : FrL h h1 x) (b : FrL h1 h2 x) : FrL h h2 x := fun y z => (b y z).trans (a y z)
theorem FrL.fs (a : FrL h h' x) : FrS h h' x := fun y i z => by rw [a y (by omega)]
theorem FrL.wt {a i v : Int} (ha : x + 184 ≤ a ∧ a < x + 248) : FrL h (am_st h a i v) x := fun y hy => am_st_o (by omega)
set_option maxHeartbeats 8000000 in
theorem C_X0_laysLeft {m : Int} (hC : CoT L h x t T S) (hT : TxtI T) (hm : 0 ≤ m ∧ m < tM T) (kk : ∀ h', FrL h h' x → leftP T h' x m → Q (.inl []) L h') : am_C G mX0_laysLeft (d + 2) [aR x, aR (manA L t m)] L h Q := by
  have hK := hC.mk
  have hma := hC.tx.man hm.1 hm.2
  obtain ⟨hE, he, hx⟩ := erd_n hT hm
  obtain ⟨pw, n64, n1⟩ := two_pw hE
  have lfb := fun (a : Nat) (j : Int) (z : a < 2 ^ (tE T m).toNat) (z1 : 0 ≤ j) (z2 : j < tE T m) => lfR_bd hT hm z ⟨z1, z2⟩
  refine x_start okX0_laysLeft rfl rfl rfl rfl ?_
  refine x_iconst dX0_laysLeft_0 ?_
  refine x_istore_2 dX0_laysLeft_1 rfl ?_
  skip
  refine x_forA ((2 ^ (tE T m).toNat : Nat) : Int) (fun i hh (w : AV × AV) => FrL h hh x ∧ ∀ (a : Nat) (j : Int), (a : Int) < i → 0 ≤ j → j < tE T m → hh (x + 184 + (a : Int)) j = lfR T m a j) (fun i hh w => am_X G mX0_laysLeft (d + 2) 2 [aR x, aR (manA L t m), aI i, w.1, w.2] [] L hh Q) (fun i hh w g0 g1 hP ih => ?_) h (aU, aU) (by omega) ⟨FrL.rf h x, fun a j z => by omega⟩
  obtain ⟨p1, p2⟩ := hP
  obtain ⟨a, rfl⟩ : ∃ a : Nat, i = a := ⟨i.toNat, by omega⟩
  generalize hN : 2 ^ (tE T m).toNat = N at pw n64 n1 g1 ih lfb
  refine x_iload_2 dX0_laysLeft_2 ?_
  refine x_iconst dX0_laysLeft_3 ?_
  refine x_aload_1 dX0_laysLeft_4 ?_
  refine x_getKI dX0_laysLeft_5 fl995_14 (by first | (exact ManL.k0 (by assumption)) | (assumption)) (by first | (exact ManL.errands (by assumption)) | (assumption)) (fun r5 => ?_)
  refine x_ishl dX0_laysLeft_8 ?_
  refine x_icmp_ge (tgt := 146) dX0_laysLeft_9 rfl (by omega) (by omega) (fun c9 => ?_) (fun c9 => ?_)
  · refine x_ret dX0_laysLeft_146 rfl ?_
    refine kk hh p1 (fun a' j z0 z1 z2 => p2 a' j (by omega) z1 z2)
  · refine x_iconst dX0_laysLeft_12 ?_
    refine x_istore_3 dX0_laysLeft_13 rfl ?_
    have ha : a < N := by omega
    have ha' : a < 2 ^ (tE T m).toNat := by rw [hN]; exact ha
    refine x_forA (tE T m) (fun j h2 (w : AV) => FrL h h2 x ∧ (∀ (a' : Nat) (j' : Int), (a' : Int) < a → 0 ≤ j' → j' < tE T m → h2 (x + 184 + (a' : Int)) j' = lfR T m a' j') ∧ ∀ j', 0 ≤ j' → j' < j → h2 (x + 184 + (a : Int)) j' = lfR T m a j') (fun j h2 w => am_X G mX0_laysLeft (d + 2) 14 [aR x, aR (manA L t m), aI a, aI j, w] [] L h2 Q) (fun j h2 w y0 y1 hP2 ih2 => ?_) hh _ hE.1 ⟨p1, p2, fun j' z0 z1 => by omega⟩
    obtain ⟨u1, u2, u3⟩ := hP2
    refine x_iload_3 dX0_laysLeft_14 ?_
    refine x_aload_1 dX0_laysLeft_15 ?_
    refine x_getKI dX0_laysLeft_16 fl995_14 (by first | (exact ManL.k0 (by assumption)) | (assumption)) (by first | (exact ManL.errands (by assumption)) | (assumption)) (fun r16 => ?_)
    refine x_icmp_ge (tgt := 140) dX0_laysLeft_19 rfl (by omega) (by omega) (fun c19 => ?_) (fun c19 => ?_)
    · refine x_iinc2 dX0_laysLeft_140 rfl ?_
      refine x_goto (tgt := 2) dX0_laysLeft_143 rfl ?_
      refine ih _ (_, _) (by omega) ⟨u1, fun a' j' z0 z1 z2 => ?_⟩
      by_cases e : a' = a
      · rw [e]
        exact u3 j' z1 (by omega)
      · exact u2 a' j' (by omega) z1 z2
    · have hj : j < tE T m := by omega
      have hjx := erd_in hT hm ⟨y0, hj⟩
      have st40 : ∀ v : Int, v = (if a = 0 then 0 else 1000000) → am_X G mX0_laysLeft (d + 2) 40 [aR x, aR (manA L t m), aI a, aI j, w] [aI v, aI j, aR (x + 184 + (a : Int))] L h2 Q := fun v ev => by
        refine x_iast_ dX0_laysLeft_40 (by exact hK.ke_left (by omega) (by omega)) (by exact hK.xe_left (by omega) (by omega) (by omega) (by omega)) (by rw [ev]; split <;> omega) ?_
        refine x_iconst dX0_laysLeft_41 ?_
        refine x_istore4 dX0_laysLeft_42 rfl ?_
        refine x_for (tE T m) (fun k h3 => FrL h h3 x ∧ (∀ (a' : Nat) (j' : Int), (a' : Int) < a → 0 ≤ j' → j' < tE T m → h3 (x + 184 + (a' : Int)) j' = lfR T m a' j') ∧ (∀ j', 0 ≤ j' → j' < j → h3 (x + 184 + (a : Int)) j' = lfR T m a j') ∧ h3 (x + 184 + (a : Int)) j = (if a = 0 then 0 else accK (tEX T m) (tEY T m) (tE T m).toNat a (tEX T m j) (tEY T m j) k.toNat)) (fun k h3 => am_X G mX0_laysLeft (d + 2) 44 [aR x, aR (manA L t m), aI a, aI j, aI k] [] L h3 Q) (fun k h3 z0 z1 hP3 ih3 => ?_) _ hE.1 ⟨u1.tr (FrL.wt (by omega)), fun a' j' x0 x1 x2 => by rw [am_st_o (by omega)]; exact u2 a' j' x0 x1 x2, fun j' x0 x1 => by rw [am_st_i (by omega)]; exact u3 j' x0 x1, by rw [am_st_s, ev]; rfl⟩
        obtain ⟨v1, v2, v3, v4⟩ := hP3
        obtain ⟨kn, rfl⟩ : ∃ kn : Nat, k = kn := ⟨k.toNat, by omega⟩
        rw [show ((kn : Nat) : Int).toNat = kn by omega] at v4
        refine x_iload4 dX0_laysLeft_44 ?_
        refine x_aload_1 dX0_laysLeft_46 ?_
        refine x_getKI dX0_laysLeft_47 fl995_14 (by first | (exact ManL.k0 (by assumption)) | (assumption)) (by first | (exact ManL.errands (by assumption)) | (assumption)) (fun r47 => ?_)
        refine x_icmp_ge (tgt := 134) dX0_laysLeft_50 rfl (by omega) (by omega) (fun c50 => ?_) (fun c50 => ?_)
        · refine x_iinc3 dX0_laysLeft_134 rfl ?_
          refine x_goto (tgt := 14) dX0_laysLeft_137 rfl ?_
          refine ih2 _ _ hj ⟨v1, v2, fun j' x0 x1 => ?_⟩
          by_cases e : j' = j
          · subst e
            rw [v4]
            by_cases ea : a = 0
            · rw [if_pos ea, ea]
              rfl
            · rw [if_neg ea, show kn = (tE T m).toNat by omega, accK_e he (by omega) ha' ea]
              rfl
          · exact v3 j' x0 (by omega)
        · have hk : (kn : Int) < tE T m := by omega
          have hkx := erd_in hT hm (k := (kn : Int)) ⟨by omega, hk⟩
          have hbt : bt (a : Int) (kn : Int) = bAnd (bShr (a : Int) (kn : Int)) 1 := rfl
          have htb := bt_tb (a := a) (k := kn) (by omega) (by omega)
          have nxt : ∀ h4 : am_H, FrL h h4 x → (∀ (a' : Nat) (j' : Int), (a' : Int) < a → 0 ≤ j' → j' < tE T m → h4 (x + 184 + (a' : Int)) j' = lfR T m a' j') → (∀ j', 0 ≤ j' → j' < j → h4 (x + 184 + (a : Int)) j' = lfR T m a j') → h4 (x + 184 + (a : Int)) j = (if a = 0 then 0 else accK (tEX T m) (tEY T m) (tE T m).toNat a (tEX T m j) (tEY T m j) (kn + 1)) → am_X G mX0_laysLeft (d + 2) 44 [aR x, aR (manA L t m), aI a, aI j, aI ((kn : Int) + 1)] [] L h4 Q := fun h4 q1 q2 q3 q4 => ih3 h4 (by omega) ⟨q1, q2, q3, by rw [show ((kn : Int) + 1).toNat = kn + 1 by omega]; exact q4⟩
          refine x_iload_2 dX0_laysLeft_53 ?_
          refine x_iload4 dX0_laysLeft_54 ?_
          refine x_ishr dX0_laysLeft_56 ?_
          refine x_iconst dX0_laysLeft_57 ?_
          refine x_iand dX0_laysLeft_58 ?_
          refine x_iconst dX0_laysLeft_59 ?_
          refine x_icmp_ne (tgt := 128) dX0_laysLeft_60 rfl (by omega) (by omega) (fun c60 => ?_) (fun c60 => ?_)
          · refine x_iinc4 dX0_laysLeft_128 rfl ?_
            refine x_goto (tgt := 44) dX0_laysLeft_131 rfl ?_
            have hf : a.testBit kn = false := by
              cases hz : a.testBit kn
              · rfl
              · rw [hz, if_pos rfl] at htb
                omega
            refine nxt h3 v1 v2 v3 ?_
            rw [v4, accK_f hf]
          · have ht : a.testBit kn = true := by
              cases hz : a.testBit kn
              · rw [hz, if_neg (by decide)] at htb
                omega
              · rfl
            obtain ⟨b1, b2, b3⟩ := tbit (a := a) (k := kn) (by omega) (by omega) ht
            have b3' : bAnd (a : Int) (bXor (bShl 1 (kn : Int)) (-1)) = ((a - 2 ^ kn : Nat) : Int) := b3
            have b4 : a - 2 ^ kn < a := Nat.sub_lt (Nat.lt_of_lt_of_le b2 b1) b2
            have ha0 : a ≠ 0 := fun z => by rw [z] at b4; exact absurd b4 (Nat.not_lt_zero _)
            rw [if_neg ha0] at v4
            have v5 := v2 (a - 2 ^ kn) kn (by omega) (by omega) hk
            have bl := lfb (a - 2 ^ kn) kn (Nat.lt_trans b4 ha) (by omega) hk
            have q1 := apa_nn (tEX T m j) (tEX T m kn)
            have q2 := apa_nn (tEY T m j) (tEY T m kn)
            have q3 := apa_bd hjx.1 hkx.1
            have q4 := apa_bd hjx.2 hkx.2
            have eT := accK_t (ex := tEX T m) (ey := tEY T m) (u := tEX T m j) (v := tEY T m j) he (a := a) (n := kn) (by omega) ha' ht (by show _ + _ + lfR T m (a - 2 ^ kn) kn < 1000000; omega)
            generalize hc : a - 2 ^ kn = c at b3' b4 v5 bl
            refine x_aload_0 dX0_laysLeft_63 ?_
            refine x_getR dX0_laysLeft_64 fl586_0 rfl (by first | (exact MkL.k0 (by assumption)) | (assumption)) (by first | (exact MkL.v_left (by assumption)) | (assumption)) ?_
            refine x_iload_2 dX0_laysLeft_67 ?_
            refine x_aald dX0_laysLeft_68 (by first | (exact MkL.k_left (by assumption)) | (assumption)) (by decide) (by decide) (by first | (exact MkL.x_left (by assumption) (by omega) (by omega)) | (omega)) (by first | (exact MkL.e_left (by assumption) (by omega) (by omega)) | (assumption)) ?_
            refine x_iload_3 dX0_laysLeft_69 ?_
            refine x_aload_0 dX0_laysLeft_70 ?_
            refine x_getR dX0_laysLeft_71 fl586_0 rfl (by first | (exact MkL.k0 (by assumption)) | (assumption)) (by first | (exact MkL.v_left (by assumption)) | (assumption)) ?_
            refine x_iload_2 dX0_laysLeft_74 ?_
            refine x_aald dX0_laysLeft_75 (by first | (exact MkL.k_left (by assumption)) | (assumption)) (by decide) (by decide) (by first | (exact MkL.x_left (by assumption) (by omega) (by omega)) | (omega)) (by first | (exact MkL.e_left (by assumption) (by omega) (by omega)) | (assumption)) ?_
            refine x_iload_3 dX0_laysLeft_76 ?_
            refine x_iald_ dX0_laysLeft_77 (by first | (exact MkL.ke_left (by assumption) (by omega) (by omega)) | (assumption)) (by first | (exact MkL.xe_left (by assumption) (by omega) (by omega) (by omega) (by omega)) | (omega)) (fun r77 => ?_)
            simp (disch := omega) only [v4, v5] at r77 ⊢
            refine x_aload_1 dX0_laysLeft_78 ?_
            refine x_getR dX0_laysLeft_79 fl984_14 rfl (by first | (exact ManL.k0 (by assumption)) | (assumption)) (by first | (rfl) | (assumption)) ?_
            refine x_iload_3 dX0_laysLeft_82 ?_
            refine x_sld_ dX0_laysLeft_83 (by first | (exact ManL.kex (by assumption)) | (assumption)) (by first | (exact ManL.xex (by assumption) (by omega) (by omega)) | (omega)) (fun r83 => ?_)
            simp (disch := omega) only [(hma.ex y0 hj), (hma.ex (by omega) hk)] at r83 ⊢
            refine x_aload_1 dX0_laysLeft_84 ?_
            refine x_getR dX0_laysLeft_85 fl987_14 rfl (by first | (exact ManL.k0 (by assumption)) | (assumption)) (by first | (rfl) | (assumption)) ?_
            refine x_iload_3 dX0_laysLeft_88 ?_
            refine x_sld_ dX0_laysLeft_89 (by first | (exact ManL.key (by assumption)) | (assumption)) (by first | (exact ManL.xey (by assumption) (by omega) (by omega)) | (omega)) (fun r89 => ?_)
            simp (disch := omega) only [(hma.ey y0 hj), (hma.ey (by omega) hk)] at r89 ⊢
            refine x_aload_1 dX0_laysLeft_90 ?_
            refine x_getR dX0_laysLeft_91 fl984_14 rfl (by first | (exact ManL.k0 (by assumption)) | (assumption)) (by first | (rfl) | (assumption)) ?_
            refine x_iload4 dX0_laysLeft_94 ?_
            refine x_sld_ dX0_laysLeft_96 (by first | (exact ManL.kex (by assumption)) | (assumption)) (by first | (exact ManL.xex (by assumption) (by omega) (by omega)) | (omega)) (fun r96 => ?_)
            simp (disch := omega) only [(hma.ex y0 hj), (hma.ex (by omega) hk)] at r96 ⊢
            refine x_aload_1 dX0_laysLeft_97 ?_
            refine x_getR dX0_laysLeft_98 fl987_14 rfl (by first | (exact ManL.k0 (by assumption)) | (assumption)) (by first | (rfl) | (assumption)) ?_
            refine x_iload4 dX0_laysLeft_101 ?_
            refine x_sld_ dX0_laysLeft_103 (by first | (exact ManL.key (by assumption)) | (assumption)) (by first | (exact ManL.xey (by assumption) (by omega) (by omega)) | (omega)) (fun r103 => ?_)
            simp (disch := omega) only [(hma.ey y0 hj), (hma.ey (by omega) hk)] at r103 ⊢
            refine x_callS4 dX0_laysLeft_104 rfl okX0_apart q1359 q1360 rfl (C_X0_apart ⟨by omega, by omega⟩ ⟨by omega, by omega⟩ ⟨by omega, by omega⟩ ⟨by omega, by omega⟩ (x_k1 ?_))
            refine x_aload_0 dX0_laysLeft_107 ?_
            refine x_getR dX0_laysLeft_108 fl586_0 rfl (by first | (exact MkL.k0 (by assumption)) | (assumption)) (by first | (exact MkL.v_left (by assumption)) | (assumption)) ?_
            refine x_iload_2 dX0_laysLeft_111 ?_
            refine x_iconst dX0_laysLeft_112 ?_
            refine x_iload4 dX0_laysLeft_113 ?_
            refine x_ishl dX0_laysLeft_115 ?_
            refine x_iconst dX0_laysLeft_116 ?_
            refine x_ixor dX0_laysLeft_117 ?_
            refine x_iand dX0_laysLeft_118 ?_
            rw [b3']
            refine x_aald dX0_laysLeft_119 (by first | (exact MkL.k_left (by assumption)) | (assumption)) (by decide) (by decide) (by first | (exact MkL.x_left (by assumption) (by omega) (by omega)) | (omega)) (by first | (exact MkL.e_left (by assumption) (by omega) (by omega)) | (assumption)) ?_
            refine x_iload4 dX0_laysLeft_120 ?_
            refine x_iald_ dX0_laysLeft_122 (by first | (exact MkL.ke_left (by assumption) (by omega) (by omega)) | (assumption)) (by first | (exact MkL.xe_left (by assumption) (by omega) (by omega) (by omega) (by omega)) | (omega)) (fun r122 => ?_)
            simp (disch := omega) only [v4, v5] at r122 ⊢
            refine x_iadd dX0_laysLeft_123 ?_
            refine x_mmin dX0_laysLeft_124 q1257 q569 q135 q570 rfl (by omega) (by omega) ?_
            refine x_iast_ dX0_laysLeft_127 (by first | (exact MkL.ke_left (by assumption) (by omega) (by omega)) | (assumption)) (by first | (exact MkL.xe_left (by assumption) (by omega) (by omega) (by omega) (by omega)) | (omega)) (by split <;> omega) ?_
            refine x_iinc4 dX0_laysLeft_128 rfl ?_
            refine x_goto (tgt := 44) dX0_laysLeft_131 rfl ?_
            refine nxt _ (v1.tr (FrL.wt (by omega))) (fun a' j' x0 x1 x2 => by rw [am_st_o (by omega)]; exact v2 a' j' x0 x1 x2) (fun j' x0 x1 => by rw [am_st_i (by omega)]; exact v3 j' x0 x1) ?_
            rw [am_st_s, if_neg ha0, eT, hc]
            rfl
      refine x_aload_0 dX0_laysLeft_22 ?_
      refine x_getR dX0_laysLeft_23 fl586_0 rfl (by first | (exact MkL.k0 (by assumption)) | (assumption)) (by first | (exact MkL.v_left (by assumption)) | (assumption)) ?_
      refine x_iload_2 dX0_laysLeft_26 ?_
      refine x_aald dX0_laysLeft_27 (by first | (exact MkL.k_left (by assumption)) | (assumption)) (by decide) (by decide) (by first | (exact MkL.x_left (by assumption) (by omega) (by omega)) | (omega)) (by first | (exact MkL.e_left (by assumption) (by omega) (by omega)) | (assumption)) ?_
      refine x_iload_3 dX0_laysLeft_28 ?_
      refine x_iload_2 dX0_laysLeft_29 ?_
      refine x_if_ne (tgt := 37) dX0_laysLeft_30 rfl (by omega) (fun c30 => ?_) (fun c30 => ?_)
      · refine x_ldcw (n := 1000000) dX0_laysLeft_37 q1358 ?_
        refine st40 _ ?_
        first
        | (rw [if_pos (by omega)]; done)
        | (rw [if_neg (by omega)]; done)
      · refine x_iconst dX0_laysLeft_33 ?_
        refine x_goto (tgt := 40) dX0_laysLeft_34 rfl ?_
        refine st40 _ ?_
        first
        | (rw [if_pos (by omega)]; done)
        | (rw [if_neg (by omega)]; done)
theorem wyV_z {ex ey : Int → Int} {e : Nat} {u v : Int} : wyV ex ey e 64 0 u v = (0, []) := rfl
set_option maxHeartbeats 4000000 in
theorem C_X0_wayFrom {m u v : Int} (hC : CoT L h x t T S) (hT : TxtI T) (hm : 0 ≤ m ∧ m < tM T) (hl : leftP T h x m) (hu : 0 ≤ u ∧ u ≤ 11) (hv : 0 ≤ v ∧ v ≤ 11) (kk : Q (.inl [aI (wyR T m u v).1]) L h) : am_C G mX0_wayFrom (d + 2) [aR x, aR (manA L t m), aI u, aI v] L h Q := by
  have hK := hC.mk
  have hma := hC.tx.man hm.1 hm.2
  obtain ⟨hE, he, hx⟩ := erd_n hT hm
  obtain ⟨pw, n64, n1⟩ := two_pw hE
  have ezero : 2 ^ (tE T m).toNat - 1 = 0 → tE T m = 0 := fun z => by
    by_cases e0 : tE T m = 0
    · exact e0
    · have : 2 ^ 1 ≤ 2 ^ (tE T m).toNat := Nat.pow_le_pow_right (by decide) (by omega)
      omega
  have kk0 : 2 ^ (tE T m).toNat - 1 = 0 → Q (.inl [aI 0]) L h := fun z => by
    have e : (wyR T m u v).1 = 0 := by
      unfold wyR
      rw [z]
      rfl
    rw [← e]
    exact kk
  suffices H : ∀ w : Int, (2 ^ (tE T m).toNat - 1 = 0 → w = 0) → (2 ^ (tE T m).toNat - 1 ≠ 0 → w = 1000000) → am_X G mX0_wayFrom (d + 2) 22 [aR x, aR (manA L t m), aI u, aI v, aI (((2 ^ (tE T m).toNat : Nat) : Int) - 1), aU, aU] [aI w] L h Q by
    refine x_start okX0_wayFrom rfl rfl rfl rfl ?_
    refine x_iconst dX0_wayFrom_0 ?_
    refine x_aload_1 dX0_wayFrom_1 ?_
    refine x_getKI dX0_wayFrom_2 fl995_14 (by first | (exact ManL.k0 (by assumption)) | (assumption)) (by first | (exact ManL.errands (by assumption)) | (assumption)) (fun r2 => ?_)
    refine x_ishl dX0_wayFrom_5 ?_
    rw [pw]
    refine x_iconst dX0_wayFrom_6 ?_
    refine x_isub dX0_wayFrom_7 ?_
    refine x_istore4 dX0_wayFrom_8 rfl ?_
    refine x_iload4 dX0_wayFrom_10 ?_
    refine x_if_ne (tgt := 19) dX0_wayFrom_12 rfl (by omega) (fun c12 => ?_) (fun c12 => ?_)
    · refine x_ldcw (n := 1000000) dX0_wayFrom_19 q1358 ?_
      exact H _ (by omega) (by omega)
    · refine x_iconst dX0_wayFrom_15 ?_
      refine x_goto (tgt := 22) dX0_wayFrom_16 rfl ?_
      exact H _ (by omega) (by omega)
  intro w w0 w1
  by_cases hz : 2 ^ (tE T m).toNat - 1 = 0
  · have hE0 := ezero hz
    rw [w0 hz]
    refine x_istore5 dX0_wayFrom_22 rfl ?_
    refine x_iconst dX0_wayFrom_24 ?_
    refine x_istore6 dX0_wayFrom_25 rfl ?_
    skip
    refine x_iload6 dX0_wayFrom_27 ?_
    refine x_aload_1 dX0_wayFrom_29 ?_
    refine x_getKI dX0_wayFrom_30 fl995_14 (by first | (exact ManL.k0 (by assumption)) | (assumption)) (by first | (exact ManL.errands (by assumption)) | (assumption)) (fun r30 => ?_)
    refine x_icmp_ge (tgt := 86) dX0_wayFrom_33 rfl (by omega) (by omega) (fun c33 => ?_) (fun c33 => ?_)
    · refine x_iload5 dX0_wayFrom_86 ?_
      refine x_iret dX0_wayFrom_88 rfl ?_
      exact kk0 hz
    · exfalso; omega
  · rw [w1 hz]
    refine x_istore5 dX0_wayFrom_22 rfl ?_
    refine x_iconst dX0_wayFrom_24 ?_
    refine x_istore6 dX0_wayFrom_25 rfl ?_
    refine x_up0 (tE T m) (fun k => 0 ≤ k → k ≤ tE T m → am_X G mX0_wayFrom (d + 2) 27 [aR x, aR (manA L t m), aI u, aI v, aI (((2 ^ (tE T m).toNat : Nat) : Int) - 1), aI (accK (tEX T m) (tEY T m) (tE T m).toNat (2 ^ (tE T m).toNat - 1) u v k.toNat), aI k] [] L h Q) (fun k ih g0 g1 => ?_) 0 (by omega) hE.1
    obtain ⟨kn, rfl⟩ : ∃ kn : Nat, k = kn := ⟨k.toNat, by omega⟩
    rw [show ((kn : Nat) : Int).toNat = kn by omega]
    refine x_iload6 dX0_wayFrom_27 ?_
    refine x_aload_1 dX0_wayFrom_29 ?_
    refine x_getKI dX0_wayFrom_30 fl995_14 (by first | (exact ManL.k0 (by assumption)) | (assumption)) (by first | (exact ManL.errands (by assumption)) | (assumption)) (fun r30 => ?_)
    refine x_icmp_ge (tgt := 86) dX0_wayFrom_33 rfl (by omega) (by omega) (fun c33 => ?_) (fun c33 => ?_)
    · refine x_iload5 dX0_wayFrom_86 ?_
      refine x_iret dX0_wayFrom_88 rfl ?_
      rw [show kn = (tE T m).toNat by omega, accK_e he (by omega) (by omega) hz]
      exact kk
    · have hk : (kn : Int) < tE T m := by omega
      have hkx := erd_in hT hm (k := (kn : Int)) ⟨by omega, hk⟩
      have ht : (2 ^ (tE T m).toNat - 1).testBit kn = true := tb_full3 (by omega)
      obtain ⟨b1, b2, b3⟩ := tbit (a := 2 ^ (tE T m).toNat - 1) (k := kn) (by omega) (by omega) ht
      have b3' : bAnd (((2 ^ (tE T m).toNat : Nat) : Int) - 1) (bXor (bShl 1 (kn : Int)) (-1)) = ((2 ^ (tE T m).toNat - 1 - 2 ^ kn : Nat) : Int) := by
        rw [← b3, show ((2 ^ (tE T m).toNat : Nat) : Int) - 1 = ((2 ^ (tE T m).toNat - 1 : Nat) : Int) by omega]
        rfl
      have b4 : 2 ^ (tE T m).toNat - 1 - 2 ^ kn < 2 ^ (tE T m).toNat - 1 := Nat.sub_lt (Nat.lt_of_lt_of_le b2 b1) b2
      have v5 := hl (2 ^ (tE T m).toNat - 1 - 2 ^ kn) kn (by omega) (by omega) hk
      have bl := lfR_bd hT hm (a := 2 ^ (tE T m).toNat - 1 - 2 ^ kn) (by omega) (j := (kn : Int)) ⟨by omega, hk⟩
      have q1 := apa_nn u (tEX T m kn)
      have q2 := apa_nn v (tEY T m kn)
      have q3 := apa_bd hu hkx.1
      have q4 := apa_bd hv hkx.2
      have eT := accK_t (ex := tEX T m) (ey := tEY T m) (u := u) (v := v) he (a := 2 ^ (tE T m).toNat - 1) (n := kn) (by omega) (by omega) ht (by show _ + _ + lfR T m (2 ^ (tE T m).toNat - 1 - 2 ^ kn) kn < 1000000; omega)
      have ih' := ih (by omega) (by omega) (by omega)
      rw [show ((kn : Int) + 1).toNat = kn + 1 by omega, eT] at ih'
      have ba : 0 ≤ accK (tEX T m) (tEY T m) (tE T m).toNat (2 ^ (tE T m).toNat - 1) u v kn ∧ accK (tEX T m) (tEY T m) (tE T m).toNat (2 ^ (tE T m).toNat - 1) u v kn ≤ 1000000 := accK_bd he (by omega) (by omega) hx hu hv kn (by omega)
      generalize hc : 2 ^ (tE T m).toNat - 1 - 2 ^ kn = c at b3' b4 v5 bl ih'
      have hc64 : c < 64 := by omega
      refine x_iload5 dX0_wayFrom_36 ?_
      refine x_iload_2 dX0_wayFrom_38 ?_
      refine x_iload_3 dX0_wayFrom_39 ?_
      refine x_aload_1 dX0_wayFrom_40 ?_
      refine x_getR dX0_wayFrom_41 fl984_14 rfl (by first | (exact ManL.k0 (by assumption)) | (assumption)) (by first | (rfl) | (assumption)) ?_
      refine x_iload6 dX0_wayFrom_44 ?_
      refine x_sld_ dX0_wayFrom_46 (by first | (exact ManL.kex (by assumption)) | (assumption)) (by first | (exact ManL.xex (by assumption) (by omega) (by omega)) | (omega)) (fun r46 => ?_)
      simp (disch := omega) only [(hma.ex (by omega) hk)] at r46 ⊢
      refine x_aload_1 dX0_wayFrom_47 ?_
      refine x_getR dX0_wayFrom_48 fl987_14 rfl (by first | (exact ManL.k0 (by assumption)) | (assumption)) (by first | (rfl) | (assumption)) ?_
      refine x_iload6 dX0_wayFrom_51 ?_
      refine x_sld_ dX0_wayFrom_53 (by first | (exact ManL.key (by assumption)) | (assumption)) (by first | (exact ManL.xey (by assumption) (by omega) (by omega)) | (omega)) (fun r53 => ?_)
      simp (disch := omega) only [(hma.ey (by omega) hk)] at r53 ⊢
      refine x_callS4 dX0_wayFrom_54 rfl okX0_apart q1359 q1360 rfl (C_X0_apart ⟨by omega, by omega⟩ ⟨by omega, by omega⟩ ⟨by omega, by omega⟩ ⟨by omega, by omega⟩ (x_k1 ?_))
      refine x_aload_0 dX0_wayFrom_57 ?_
      refine x_getR dX0_wayFrom_58 fl586_0 rfl (by first | (exact MkL.k0 (by assumption)) | (assumption)) (by first | (exact MkL.v_left (by assumption)) | (assumption)) ?_
      refine x_iload4 dX0_wayFrom_61 ?_
      refine x_iconst dX0_wayFrom_63 ?_
      refine x_iload6 dX0_wayFrom_64 ?_
      refine x_ishl dX0_wayFrom_66 ?_
      refine x_iconst dX0_wayFrom_67 ?_
      refine x_ixor dX0_wayFrom_68 ?_
      refine x_iand dX0_wayFrom_69 ?_
      rw [b3']
      refine x_aald dX0_wayFrom_70 (by first | (exact MkL.k_left (by assumption)) | (assumption)) (by decide) (by decide) (by first | (exact MkL.x_left (by assumption) (by omega) (by omega)) | (omega)) (by first | (exact MkL.e_left (by assumption) (by omega) (by omega)) | (assumption)) ?_
      refine x_iload6 dX0_wayFrom_71 ?_
      refine x_iald_ dX0_wayFrom_73 (by first | (exact MkL.ke_left (by assumption) (by omega) (by omega)) | (assumption)) (by first | (exact MkL.xe_left (by assumption) (by omega) (by omega) (by omega) (by omega)) | (omega)) (fun r73 => ?_)
      simp (disch := omega) only [v5] at r73 ⊢
      refine x_iadd dX0_wayFrom_74 ?_
      refine x_mmin dX0_wayFrom_75 q1257 q569 q135 q570 rfl (by omega) (by omega) ?_
      refine x_istore5 dX0_wayFrom_78 rfl ?_
      refine x_iinc6 dX0_wayFrom_80 rfl ?_
      refine x_goto (tgt := 27) dX0_wayFrom_83 rfl ?_
      exact ih'
def wayV (T : Txt) (m : Int) : Int := if 0 ≤ m ∧ m < tM T then (wyR T m (tDX T m) (tDY T m)).1 else -1
theorem dor_in (hT : TxtI T) {m : Int} (hm : 0 ≤ m ∧ m < tM T) : (0 ≤ tDX T m ∧ tDX T m ≤ 11) ∧ (0 ≤ tDY T m ∧ tDY T m ≤ 11) := by
  have := (hT.2.2.2.2.2.1 m hm.1 hm.2).1
  unfold inT at this
  have := hT.2.1
  have := hT.2.2.1
  omega
theorem C_way {m : Int} (hC : CoT L h x t T S) (hT : TxtI T) (hm : 0 ≤ m ∧ m < tM T) (kk : ∀ h', FrL h h' x → leftP T h' x m → Q (.inl [aI (wyR T m (tDX T m) (tDY T m)).1]) L h') : am_C G mX0_way (d + 4) [aR x, aI m] L h Q := by
  have hK := hC.mk
  have htx := hC.tx
  have hht := hC.ht
  have hM := hT.1
  have hma := htx.man hm.1 hm.2
  have hd := dor_in hT hm
  refine x_start okX0_way rfl rfl rfl rfl ?_
  refine x_aload_0 dX0_way_0 ?_
  refine x_iload_1 dX0_way_1 ?_
  refine x_callV1 dX0_way_2 rfl okX0_isMan q1192 q1194 qs32 (by first | assumption | (exact MkL.k0 (by assumption))) am_k0 rfl (C_X0_isMan hC hT ⟨by omega, by omega⟩ (x_k1 ?_))
  refine x_if_ne (tgt := 10) dX0_way_5 rfl (by split <;> omega) (fun c5 => ?_) (fun c5 => ?_)
  · refine x_aload_0 dX0_way_10 ?_
    refine x_getW dX0_way_11 fl574_0 rfl (by first | (exact MkL.k0 (by assumption)) | (assumption)) (by assumption) ?_
    refine x_getR dX0_way_14 fl352_4 rfl (by first | (exact TxL.k0 (by assumption)) | (assumption)) (by first | (rfl) | (assumption)) ?_
    refine x_iload_1 dX0_way_17 ?_
    refine x_callV1 dX0_way_18 rfl okJ5_get q1204 q530 q531 (by first | assumption | (exact TxL.kl (by assumption))) am_k20 rfl (C_J5_get htx.ls hm (x_k1 ?_))
    refine x_cast dX0_way_21 q1205 (by first | assumption | (exact ManL.k0 (by assumption))) am_k14 ?_
    refine x_astore_2 dX0_way_24 rfl ?_
    refine x_aload_0 dX0_way_25 ?_
    refine x_aload_2 dX0_way_26 ?_
    refine x_callV1 dX0_way_27 rfl okX0_laysLeft q1354 q1356 qs39 (by first | assumption | (exact MkL.k0 (by assumption))) am_k0 rfl (C_X0_laysLeft hC hT hm (fun h1 f1 l1 => (x_k0 ?_)))
    refine x_aload_0 dX0_way_30 ?_
    refine x_aload_2 dX0_way_31 ?_
    refine x_aload_2 dX0_way_32 ?_
    refine x_getKI dX0_way_33 fl990_14 (by first | (exact ManL.k0 (by assumption)) | (assumption)) (by first | (exact ManL.x (by assumption)) | (assumption)) (fun r33 => ?_)
    refine x_aload_2 dX0_way_36 ?_
    refine x_getKI dX0_way_37 fl993_14 (by first | (exact ManL.k0 (by assumption)) | (assumption)) (by first | (exact ManL.y (by assumption)) | (assumption)) (fun r37 => ?_)
    refine x_callV3 dX0_way_40 rfl okX0_wayFrom q1362 q1364 qs40 (by first | assumption | (exact MkL.k0 (by assumption))) am_k0 rfl (C_X0_wayFrom (hC.fr f1.fs) hT hm l1 hd.1 hd.2 (x_k1 ?_))
    refine x_iret dX0_way_43 rfl ?_
    exact kk h1 f1 l1
  · exfalso; rw [if_pos hm] at c5; omega
theorem C_X0_way {m : Int} (hC : CoT L h x t T S) (hT : TxtI T) (hm : rg32 m) (kk : ∀ h', FrS h h' x → Q (.inl [aI (wayV T m)]) L h') : am_C G mX0_way (d + 430) [aR x, aI m] L h Q := by
  by_cases hm1 : 0 ≤ m ∧ m < tM T
  · refine C_way (d := d + 426) hC hT hm1 (fun h1 f1 _ => ?_)
    have := kk h1 f1.fs
    unfold wayV at this
    rw [if_pos hm1] at this
    exact this
  · have hK := hC.mk
    have hM := hT.1
    refine x_start okX0_way rfl rfl rfl rfl ?_
    refine x_aload_0 dX0_way_0 ?_
    refine x_iload_1 dX0_way_1 ?_
    refine x_callV1 dX0_way_2 rfl okX0_isMan q1192 q1194 qs32 (by first | assumption | (exact MkL.k0 (by assumption))) am_k0 rfl (C_X0_isMan hC hT hm (x_k1 ?_))
    refine x_if_ne (tgt := 10) dX0_way_5 rfl (by split <;> omega) (fun c5 => ?_) (fun c5 => ?_)
    · exfalso; rw [if_neg hm1] at c5; omega
    · refine x_iconst dX0_way_8 ?_
      refine x_iret dX0_way_9 rfl ?_
      refine x_q1 ?_ (kk h (FrS.rf h x))
      unfold wayV
      rw [if_neg hm1]
def wayAtV (T : Txt) (m i : Int) : Int := if (0 ≤ m ∧ m < tM T) ∧ (0 ≤ i ∧ i < tE T m) then (wyR T m (tDX T m) (tDY T m)).2.getD i.toNat 0 else -1
set_option maxHeartbeats 8000000 in
theorem C_wayAt {m i : Int} (hC : CoT L h x t T S) (hT : TxtI T) (hm : 0 ≤ m ∧ m < tM T) (hi : 0 ≤ i ∧ i < tE T m) (kk : ∀ h', FrL h h' x → Q (.inl [aI ((wyR T m (tDX T m) (tDY T m)).2.getD i.toNat 0)]) L h') : am_C G mX0_wayAt (d + 6) [aR x, aI m, aI i] L h Q := by
  have hK := hC.mk
  have htx := hC.tx
  have hht := hC.ht
  have hM := hT.1
  have hma := htx.man hm.1 hm.2
  have hd := dor_in hT hm
  obtain ⟨hE, he, hx⟩ := erd_n hT hm
  obtain ⟨pw, n64, n1⟩ := two_pw hE
  have fo := full_ok (n := tE T m) ⟨hE.1, by omega⟩
  have H0 : ∀ h1 : am_H, FrL h h1 x → leftP T h1 x m → am_X G mX0_wayAt (d + 6) 87 [aR x, aI m, aI i, aR (manA L t m), aI (wyR T m (tDX T m) (tDY T m)).1, aI (bShl 1 (tE T m) - 1), aI (tDX T m), aI (tDY T m), aI 0, aI 0] [] L h1 Q := fun h1 f1 l1 => by
    have hC1 := hC.fr f1.fs
    rw [pw] at ⊢
    have fo := fo
    rw [pw] at fo
    rw [show ((2 ^ (tE T m).toNat : Nat) : Int) - 1 = ((2 ^ (tE T m).toNat - 1 : Nat) : Int) by omega] at fo ⊢
    suffices H : ∀ (r : Nat) (n : Int) (a : Nat) (u v k : Int) (dn : List Int), (r : Int) + n = i + 1 → 0 ≤ n → a < 2 ^ (tE T m).toNat → bits (a : Int) + n = tE T m → (0 ≤ u ∧ u ≤ 11) → (0 ≤ v ∧ v ≤ 11) → (dn.length : Int) = n → (wyR T m (tDX T m) (tDY T m)).2 = dn ++ (wyV (tEX T m) (tEY T m) (tE T m).toNat 64 a u v).2 → (0 < n → dn.getD (n - 1).toNat 0 = k) → am_X G mX0_wayAt (d + 6) 87 [aR x, aI m, aI i, aR (manA L t m), aI (wyV (tEX T m) (tEY T m) (tE T m).toNat 64 a u v).1, aI a, aI u, aI v, aI k, aI n] [] L h1 Q from H (i + 1).toNat 0 (2 ^ (tE T m).toNat - 1) _ _ 0 [] (by omega) (by omega) (by omega) (by omega) hd.1 hd.2 rfl rfl (fun z => by omega)
    intro r
    induction r with
    | zero =>
      intro n a u v k dn z1 z2 z3 z4 z5 z6 z7 z8 z9
      refine x_iload9 dX0_wayAt_87 ?_
      refine x_iload_2 dX0_wayAt_89 ?_
      refine x_icmp_gt (tgt := 203) dX0_wayAt_90 rfl (by omega) (by omega) (fun c90 => ?_) (fun c90 => ?_)
      · refine x_iload8 dX0_wayAt_203 ?_
        refine x_iret dX0_wayAt_205 rfl ?_
        refine x_q1 ?_ (kk h1 f1)
        rw [z8, getD_app _ _ _ (by omega)]
        rw [← z9 (by omega), show n - 1 = i by omega]
      · exfalso; omega
    | succ r ih =>
      intro n a u v k dn z1 z2 z3 z4 z5 z6 z7 z8 z9
      have ha0 : a ≠ 0 := fun z => by
        rw [z] at z4
        have : bits ((0 : Nat) : Int) = 0 := by decide +kernel
        omega
      obtain ⟨kn, k1, k2, k3, k4, k5⟩ := wyV_hd (ex := tEX T m) (ey := tEY T m) (u := u) (v := v) he (a := a) (by omega) z3 ha0
      refine x_iload9 dX0_wayAt_87 ?_
      refine x_iload_2 dX0_wayAt_89 ?_
      refine x_icmp_gt (tgt := 203) dX0_wayAt_90 rfl (by omega) (by omega) (fun c90 => ?_) (fun c90 => ?_)
      · exfalso; omega
      · refine x_iconst dX0_wayAt_93 ?_
        refine x_istore8 dX0_wayAt_94 rfl ?_
        suffices HI : ∀ (r2 : Nat) (jn : Nat), r2 + jn = kn → am_X G mX0_wayAt (d + 6) 96 [aR x, aI m, aI i, aR (manA L t m), aI (wyV (tEX T m) (tEY T m) (tE T m).toNat 64 a u v).1, aI a, aI u, aI v, aI (jn : Int), aI n] [] L h1 Q from HI kn 0 rfl
        intro r2
        induction r2 with
        | zero =>
          intro jn hj
          rw [show jn = kn by omega]
          have hk : (kn : Int) < tE T m := by omega
          have hkx := erd_in hT hm (k := (kn : Int)) ⟨by omega, hk⟩
          have hbt : bt (a : Int) (kn : Int) = bAnd (bShr (a : Int) (kn : Int)) 1 := rfl
          have htb := bt_tb (a := a) (k := kn) (by omega) (by omega)
          rw [k2, if_pos rfl] at htb
          obtain ⟨b1, b2, b3⟩ := tbit (a := a) (k := kn) (by omega) (by omega) k2
          have b3' : bAnd (a : Int) (bXor (bShl 1 (kn : Int)) (-1)) = ((a - 2 ^ kn : Nat) : Int) := b3
          have b4 : a - 2 ^ kn < a := Nat.sub_lt (Nat.lt_of_lt_of_le b2 b1) b2
          have v5 := l1 (a - 2 ^ kn) kn (Nat.lt_trans b4 z3) (by omega) hk
          have bl := lfR_bd hT hm (a := a - 2 ^ kn) (Nat.lt_trans b4 z3) (j := (kn : Int)) ⟨by omega, hk⟩
          have cb := clr_bits (a := (a : Int)) (m := (kn : Int)) ⟨by omega, by omega⟩ ⟨by omega, by omega⟩ (by omega)
          rw [b3] at cb
          have q1 := apa_nn u (tEX T m kn)
          have q2 := apa_nn v (tEY T m kn)
          have q3 := apa_bd z5 hkx.1
          have q4 := apa_bd z6 hkx.2
          have e1 : (wyV (tEX T m) (tEY T m) (tE T m).toNat 64 a u v).1 = apa u (tEX T m kn) + apa v (tEY T m kn) + lfR T m (a - 2 ^ kn) kn := by rw [k3]; rfl
          have e2 : (wyV (tEX T m) (tEY T m) (tE T m).toNat 64 a u v).2 = (kn : Int) :: (wyV (tEX T m) (tEY T m) (tE T m).toNat 64 (a - 2 ^ kn) (tEX T m kn) (tEY T m kn)).2 := by rw [k3]
          have lz : (a - 2 ^ kn : Nat) < 64 := by omega
          have lz3 : (a - 2 ^ kn : Nat) < 2 ^ (tE T m).toNat := Nat.lt_trans b4 z3
          have ihk := ih (n + 1) (a - 2 ^ kn) (tEX T m kn) (tEY T m kn) kn (dn ++ [(kn : Int)]) (by omega) (by omega) lz3 (by omega) hkx.1 hkx.2 (by simp; omega) (by rw [z8, e2]; simp) (fun _ => by rw [show (n + 1 - 1).toNat = dn.length by omega]; simp)
          rw [e1]
          have el : (wyV (tEX T m) (tEY T m) (tE T m).toNat 64 (a - 2 ^ kn) (tEX T m kn) (tEY T m kn)).1 = lfR T m (a - 2 ^ kn) kn := rfl
          rw [el] at ihk
          generalize a - 2 ^ kn = c at b3' b4 v5 bl ihk lz
          refine x_iload5 dX0_wayAt_96 ?_
          refine x_iload8 dX0_wayAt_98 ?_
          refine x_ishr dX0_wayAt_100 ?_
          refine x_iconst dX0_wayAt_101 ?_
          refine x_iand dX0_wayAt_102 ?_
          refine x_if_eq (tgt := 150) dX0_wayAt_103 rfl (by omega) (fun c103 => ?_) (fun c103 => ?_)
          · exfalso; first | omega | exact absurd rfl c147 | (apply c147; omega)
          · refine x_iload6 dX0_wayAt_106 ?_
            refine x_iload7 dX0_wayAt_108 ?_
            refine x_aload_3 dX0_wayAt_110 ?_
            refine x_getR dX0_wayAt_111 fl984_14 rfl (by first | (exact ManL.k0 (by assumption)) | (assumption)) (by first | (rfl) | (assumption)) ?_
            refine x_iload8 dX0_wayAt_114 ?_
            refine x_sld_ dX0_wayAt_116 (by first | (exact ManL.kex (by assumption)) | (assumption)) (by first | (exact ManL.xex (by assumption) (by omega) (by omega)) | (omega)) (fun r116 => ?_)
            simp (disch := omega) only [(hma.ex (by omega) hk)] at r116 ⊢
            refine x_aload_3 dX0_wayAt_117 ?_
            refine x_getR dX0_wayAt_118 fl987_14 rfl (by first | (exact ManL.k0 (by assumption)) | (assumption)) (by first | (rfl) | (assumption)) ?_
            refine x_iload8 dX0_wayAt_121 ?_
            refine x_sld_ dX0_wayAt_123 (by first | (exact ManL.key (by assumption)) | (assumption)) (by first | (exact ManL.xey (by assumption) (by omega) (by omega)) | (omega)) (fun r123 => ?_)
            simp (disch := omega) only [(hma.ey (by omega) hk)] at r123 ⊢
            refine x_callS4 dX0_wayAt_124 rfl okX0_apart q1359 q1360 rfl (C_X0_apart ⟨by omega, by omega⟩ ⟨by omega, by omega⟩ ⟨by omega, by omega⟩ ⟨by omega, by omega⟩ (x_k1 ?_))
            refine x_aload_0 dX0_wayAt_127 ?_
            refine x_getR dX0_wayAt_128 fl586_0 rfl (by first | (exact MkL.k0 (by assumption)) | (assumption)) (by first | (exact MkL.v_left (by assumption)) | (assumption)) ?_
            refine x_iload5 dX0_wayAt_131 ?_
            refine x_iconst dX0_wayAt_133 ?_
            refine x_iload8 dX0_wayAt_134 ?_
            refine x_ishl dX0_wayAt_136 ?_
            refine x_iconst dX0_wayAt_137 ?_
            refine x_ixor dX0_wayAt_138 ?_
            refine x_iand dX0_wayAt_139 ?_
            rw [b3']
            refine x_aald dX0_wayAt_140 (by first | (exact MkL.k_left (by assumption)) | (assumption)) (by decide) (by decide) (by first | (exact MkL.x_left (by assumption) (by omega) (by omega)) | (omega)) (by first | (exact MkL.e_left (by assumption) (by omega) (by omega)) | (assumption)) ?_
            refine x_iload8 dX0_wayAt_141 ?_
            refine x_iald_ dX0_wayAt_143 (by first | (exact MkL.ke_left (by assumption) (by omega) (by omega)) | (assumption)) (by first | (exact MkL.xe_left (by assumption) (by omega) (by omega) (by omega) (by omega)) | (omega)) (fun r143 => ?_)
            simp (disch := omega) only [v5] at r143 ⊢
            refine x_iadd dX0_wayAt_144 ?_
            refine x_iload4 dX0_wayAt_145 ?_
            refine x_icmp_eq (tgt := 156) dX0_wayAt_147 rfl (by omega) (by omega) (fun c147 => ?_) (fun c147 => ?_)
            · refine x_iload5 dX0_wayAt_156 ?_
              refine x_iconst dX0_wayAt_158 ?_
              refine x_iload8 dX0_wayAt_159 ?_
              refine x_ishl dX0_wayAt_161 ?_
              refine x_iconst dX0_wayAt_162 ?_
              refine x_ixor dX0_wayAt_163 ?_
              refine x_iand dX0_wayAt_164 ?_
              rw [b3']
              refine x_istore5 dX0_wayAt_165 rfl ?_
              refine x_aload_0 dX0_wayAt_167 ?_
              refine x_getR dX0_wayAt_168 fl586_0 rfl (by first | (exact MkL.k0 (by assumption)) | (assumption)) (by first | (exact MkL.v_left (by assumption)) | (assumption)) ?_
              refine x_iload5 dX0_wayAt_171 ?_
              refine x_aald dX0_wayAt_173 (by first | (exact MkL.k_left (by assumption)) | (assumption)) (by decide) (by decide) (by first | (exact MkL.x_left (by assumption) (by omega) (by omega)) | (omega)) (by first | (exact MkL.e_left (by assumption) (by omega) (by omega)) | (assumption)) ?_
              refine x_iload8 dX0_wayAt_174 ?_
              refine x_iald_ dX0_wayAt_176 (by first | (exact MkL.ke_left (by assumption) (by omega) (by omega)) | (assumption)) (by first | (exact MkL.xe_left (by assumption) (by omega) (by omega) (by omega) (by omega)) | (omega)) (fun r176 => ?_)
              simp (disch := omega) only [v5] at r176 ⊢
              refine x_istore4 dX0_wayAt_177 rfl ?_
              refine x_aload_3 dX0_wayAt_179 ?_
              refine x_getR dX0_wayAt_180 fl984_14 rfl (by first | (exact ManL.k0 (by assumption)) | (assumption)) (by first | (rfl) | (assumption)) ?_
              refine x_iload8 dX0_wayAt_183 ?_
              refine x_sld_ dX0_wayAt_185 (by first | (exact ManL.kex (by assumption)) | (assumption)) (by first | (exact ManL.xex (by assumption) (by omega) (by omega)) | (omega)) (fun r185 => ?_)
              simp (disch := omega) only [(hma.ex (by omega) hk)] at r185 ⊢
              refine x_istore6 dX0_wayAt_186 rfl ?_
              refine x_aload_3 dX0_wayAt_188 ?_
              refine x_getR dX0_wayAt_189 fl987_14 rfl (by first | (exact ManL.k0 (by assumption)) | (assumption)) (by first | (rfl) | (assumption)) ?_
              refine x_iload8 dX0_wayAt_192 ?_
              refine x_sld_ dX0_wayAt_194 (by first | (exact ManL.key (by assumption)) | (assumption)) (by first | (exact ManL.xey (by assumption) (by omega) (by omega)) | (omega)) (fun r194 => ?_)
              simp (disch := omega) only [(hma.ey (by omega) hk)] at r194 ⊢
              refine x_istore7 dX0_wayAt_195 rfl ?_
              refine x_iinc9 dX0_wayAt_197 rfl ?_
              refine x_goto (tgt := 87) dX0_wayAt_200 rfl ?_
              exact ihk
            · exfalso; first | omega | exact absurd rfl c147 | (apply c147; omega)
        | succ r2 ih2 =>
          intro jn hj
          have hk : (jn : Int) < tE T m := by omega
          have hkx := erd_in hT hm (k := (jn : Int)) ⟨by omega, hk⟩
          have hbt : bt (a : Int) (jn : Int) = bAnd (bShr (a : Int) (jn : Int)) 1 := rfl
          have htb := bt_tb (a := a) (k := jn) (by omega) (by omega)
          have nxt : am_X G mX0_wayAt (d + 6) 96 [aR x, aI m, aI i, aR (manA L t m), aI (wyV (tEX T m) (tEY T m) (tE T m).toNat 64 a u v).1, aI a, aI u, aI v, aI ((jn : Int) + 1), aI n] [] L h1 Q := ih2 (jn + 1) (by omega)
          have wb := wyV_nn (ex := tEX T m) (ey := tEY T m) he 64 a u v z3 (by omega)
          have wb2 := wyV_bd (ex := tEX T m) (ey := tEY T m) he hx 64 a u v z3 (by omega) z5 z6
          refine x_iload5 dX0_wayAt_96 ?_
          refine x_iload8 dX0_wayAt_98 ?_
          refine x_ishr dX0_wayAt_100 ?_
          refine x_iconst dX0_wayAt_101 ?_
          refine x_iand dX0_wayAt_102 ?_
          refine x_if_eq (tgt := 150) dX0_wayAt_103 rfl (by omega) (fun c103 => ?_) (fun c103 => ?_)
          · refine x_iinc8 dX0_wayAt_150 rfl ?_
            refine x_goto (tgt := 96) dX0_wayAt_153 rfl ?_
            exact nxt
          · have ht : a.testBit jn = true := by
              cases hz : a.testBit jn
              · rw [hz, if_neg (by decide)] at htb
                omega
              · rfl
            obtain ⟨b1, b2, b3⟩ := tbit (a := a) (k := jn) (by omega) (by omega) ht
            have b3' : bAnd (a : Int) (bXor (bShl 1 (jn : Int)) (-1)) = ((a - 2 ^ jn : Nat) : Int) := b3
            have b4 : a - 2 ^ jn < a := Nat.sub_lt (Nat.lt_of_lt_of_le b2 b1) b2
            have v5 := l1 (a - 2 ^ jn) jn (Nat.lt_trans b4 z3) (by omega) hk
            have bl := lfR_bd hT hm (a := a - 2 ^ jn) (Nat.lt_trans b4 z3) (j := (jn : Int)) ⟨by omega, hk⟩
            have q1 := apa_nn u (tEX T m jn)
            have q2 := apa_nn v (tEY T m jn)
            have q3 := apa_bd z5 hkx.1
            have q4 := apa_bd z6 hkx.2
            have e1 : (wyV (tEX T m) (tEY T m) (tE T m).toNat 64 a u v).1 < apa u (tEX T m jn) + apa v (tEY T m jn) + lfR T m (a - 2 ^ jn) jn := k5 jn (by omega) ht
            have lz : (a - 2 ^ jn : Nat) < 64 := by omega
            generalize a - 2 ^ jn = c at b3' b4 v5 bl e1 lz
            refine x_iload6 dX0_wayAt_106 ?_
            refine x_iload7 dX0_wayAt_108 ?_
            refine x_aload_3 dX0_wayAt_110 ?_
            refine x_getR dX0_wayAt_111 fl984_14 rfl (by first | (exact ManL.k0 (by assumption)) | (assumption)) (by first | (rfl) | (assumption)) ?_
            refine x_iload8 dX0_wayAt_114 ?_
            refine x_sld_ dX0_wayAt_116 (by first | (exact ManL.kex (by assumption)) | (assumption)) (by first | (exact ManL.xex (by assumption) (by omega) (by omega)) | (omega)) (fun r116 => ?_)
            simp (disch := omega) only [(hma.ex (by omega) hk)] at r116 ⊢
            refine x_aload_3 dX0_wayAt_117 ?_
            refine x_getR dX0_wayAt_118 fl987_14 rfl (by first | (exact ManL.k0 (by assumption)) | (assumption)) (by first | (rfl) | (assumption)) ?_
            refine x_iload8 dX0_wayAt_121 ?_
            refine x_sld_ dX0_wayAt_123 (by first | (exact ManL.key (by assumption)) | (assumption)) (by first | (exact ManL.xey (by assumption) (by omega) (by omega)) | (omega)) (fun r123 => ?_)
            simp (disch := omega) only [(hma.ey (by omega) hk)] at r123 ⊢
            refine x_callS4 dX0_wayAt_124 rfl okX0_apart q1359 q1360 rfl (C_X0_apart ⟨by omega, by omega⟩ ⟨by omega, by omega⟩ ⟨by omega, by omega⟩ ⟨by omega, by omega⟩ (x_k1 ?_))
            refine x_aload_0 dX0_wayAt_127 ?_
            refine x_getR dX0_wayAt_128 fl586_0 rfl (by first | (exact MkL.k0 (by assumption)) | (assumption)) (by first | (exact MkL.v_left (by assumption)) | (assumption)) ?_
            refine x_iload5 dX0_wayAt_131 ?_
            refine x_iconst dX0_wayAt_133 ?_
            refine x_iload8 dX0_wayAt_134 ?_
            refine x_ishl dX0_wayAt_136 ?_
            refine x_iconst dX0_wayAt_137 ?_
            refine x_ixor dX0_wayAt_138 ?_
            refine x_iand dX0_wayAt_139 ?_
            rw [b3']
            refine x_aald dX0_wayAt_140 (by first | (exact MkL.k_left (by assumption)) | (assumption)) (by decide) (by decide) (by first | (exact MkL.x_left (by assumption) (by omega) (by omega)) | (omega)) (by first | (exact MkL.e_left (by assumption) (by omega) (by omega)) | (assumption)) ?_
            refine x_iload8 dX0_wayAt_141 ?_
            refine x_iald_ dX0_wayAt_143 (by first | (exact MkL.ke_left (by assumption) (by omega) (by omega)) | (assumption)) (by first | (exact MkL.xe_left (by assumption) (by omega) (by omega) (by omega) (by omega)) | (omega)) (fun r143 => ?_)
            simp (disch := omega) only [v5] at r143 ⊢
            refine x_iadd dX0_wayAt_144 ?_
            refine x_iload4 dX0_wayAt_145 ?_
            refine x_icmp_eq (tgt := 156) dX0_wayAt_147 rfl (by omega) (by omega) (fun c147 => ?_) (fun c147 => ?_)
            · exfalso; omega
            · refine x_iinc8 dX0_wayAt_150 rfl ?_
              refine x_goto (tgt := 96) dX0_wayAt_153 rfl ?_
              exact nxt
  refine x_start okX0_wayAt rfl rfl rfl rfl ?_
  refine x_aload_0 dX0_wayAt_0 ?_
  refine x_iload_1 dX0_wayAt_1 ?_
  refine x_callV1 dX0_wayAt_2 rfl okX0_isMan q1192 q1194 qs32 (by first | assumption | (exact MkL.k0 (by assumption))) am_k0 rfl (C_X0_isMan hC hT ⟨by omega, by omega⟩ (x_k1 ?_))
  refine x_if_eq (tgt := 35) dX0_wayAt_5 rfl (by split <;> omega) (fun c5 => ?_) (fun c5 => ?_)
  · exfalso; first | (rw [if_pos hm] at c5; omega) | (rw [if_pos (by omega)] at c32; omega)
  · refine x_iload_2 dX0_wayAt_8 ?_
    refine x_iconst dX0_wayAt_9 ?_
    refine x_aload_0 dX0_wayAt_10 ?_
    refine x_getW dX0_wayAt_11 fl574_0 rfl (by first | (exact MkL.k0 (by assumption)) | (assumption)) (by assumption) ?_
    refine x_getR dX0_wayAt_14 fl352_4 rfl (by first | (exact TxL.k0 (by assumption)) | (assumption)) (by first | (rfl) | (assumption)) ?_
    refine x_iload_1 dX0_wayAt_17 ?_
    refine x_callV1 dX0_wayAt_18 rfl okJ5_get q1204 q530 q531 (by first | assumption | (exact TxL.kl (by assumption))) am_k20 rfl (C_J5_get htx.ls hm (x_k1 ?_))
    refine x_cast dX0_wayAt_21 q1205 (by first | assumption | (exact ManL.k0 (by assumption))) am_k14 ?_
    refine x_getKI dX0_wayAt_24 fl995_14 (by first | (exact ManL.k0 (by assumption)) | (assumption)) (by first | (exact ManL.errands (by assumption)) | (assumption)) (fun r24 => ?_)
    refine x_iconst dX0_wayAt_27 ?_
    refine x_isub dX0_wayAt_28 ?_
    refine x_callS3 dX0_wayAt_29 rfl okX0_isIn q1201 q1202 rfl (C_X0_isIn ⟨by omega, by omega⟩ ⟨by decide, by decide⟩ ⟨by omega, by omega⟩ (x_k1 ?_))
    refine x_if_ne (tgt := 37) dX0_wayAt_32 rfl (by split <;> omega) (fun c32 => ?_) (fun c32 => ?_)
    · refine x_aload_0 dX0_wayAt_37 ?_
      refine x_getW dX0_wayAt_38 fl574_0 rfl (by first | (exact MkL.k0 (by assumption)) | (assumption)) (by assumption) ?_
      refine x_getR dX0_wayAt_41 fl352_4 rfl (by first | (exact TxL.k0 (by assumption)) | (assumption)) (by first | (rfl) | (assumption)) ?_
      refine x_iload_1 dX0_wayAt_44 ?_
      refine x_callV1 dX0_wayAt_45 rfl okJ5_get q1204 q530 q531 (by first | assumption | (exact TxL.kl (by assumption))) am_k20 rfl (C_J5_get htx.ls hm (x_k1 ?_))
      refine x_cast dX0_wayAt_48 q1205 (by first | assumption | (exact ManL.k0 (by assumption))) am_k14 ?_
      refine x_astore_3 dX0_wayAt_51 rfl ?_
      refine x_aload_0 dX0_wayAt_52 ?_
      refine x_iload_1 dX0_wayAt_53 ?_
      refine x_callV1 dX0_wayAt_54 rfl okX0_way q1370 q1351 q1352 (by first | assumption | (exact MkL.k0 (by assumption))) am_k0 rfl (C_way hC hT hm (fun h1 f1 l1 => (x_k1 ?_)))
      refine x_istore4 dX0_wayAt_57 rfl ?_
      refine x_iconst dX0_wayAt_59 ?_
      refine x_aload_3 dX0_wayAt_60 ?_
      refine x_getKI dX0_wayAt_61 fl995_14 (by first | (exact ManL.k0 (by assumption)) | (assumption)) (by first | (exact ManL.errands (by assumption)) | (assumption)) (fun r61 => ?_)
      refine x_ishl dX0_wayAt_64 ?_
      refine x_iconst dX0_wayAt_65 ?_
      refine x_isub dX0_wayAt_66 ?_
      refine x_istore5 dX0_wayAt_67 rfl ?_
      refine x_aload_3 dX0_wayAt_69 ?_
      refine x_getKI dX0_wayAt_70 fl990_14 (by first | (exact ManL.k0 (by assumption)) | (assumption)) (by first | (exact ManL.x (by assumption)) | (assumption)) (fun r70 => ?_)
      refine x_istore6 dX0_wayAt_73 rfl ?_
      refine x_aload_3 dX0_wayAt_75 ?_
      refine x_getKI dX0_wayAt_76 fl993_14 (by first | (exact ManL.k0 (by assumption)) | (assumption)) (by first | (exact ManL.y (by assumption)) | (assumption)) (fun r76 => ?_)
      refine x_istore7 dX0_wayAt_79 rfl ?_
      refine x_iconst dX0_wayAt_81 ?_
      refine x_istore8 dX0_wayAt_82 rfl ?_
      refine x_iconst dX0_wayAt_84 ?_
      refine x_istore9 dX0_wayAt_85 rfl ?_
      exact H0 h1 f1 l1
    · exfalso; first | (rw [if_pos hm] at c5; omega) | (rw [if_pos (by omega)] at c32; omega)
theorem C_X0_wayAt {m i : Int} (hC : CoT L h x t T S) (hT : TxtI T) (hm : rg32 m) (hi : rg32 i) (kk : ∀ h', FrS h h' x → Q (.inl [aI (wayAtV T m i)]) L h') : am_C G mX0_wayAt (d + 430) [aR x, aI m, aI i] L h Q := by
  by_cases h1 : (0 ≤ m ∧ m < tM T) ∧ (0 ≤ i ∧ i < tE T m)
  · refine C_wayAt (d := d + 424) hC hT h1.1 h1.2 (fun h1' f1 => ?_)
    have := kk h1' f1.fs
    unfold wayAtV at this
    rw [if_pos h1] at this
    exact this
  · have hK := hC.mk
    have htx := hC.tx
    have hht := hC.ht
    have hM := hT.1
    have kn : Q (.inl [aI (-1)]) L h := by
      have := kk h (FrS.rf h x)
      unfold wayAtV at this
      rw [if_neg h1] at this
      exact this
    refine x_start okX0_wayAt rfl rfl rfl rfl ?_
    refine x_aload_0 dX0_wayAt_0 ?_
    refine x_iload_1 dX0_wayAt_1 ?_
    refine x_callV1 dX0_wayAt_2 rfl okX0_isMan q1192 q1194 qs32 (by first | assumption | (exact MkL.k0 (by assumption))) am_k0 rfl (C_X0_isMan hC hT hm (x_k1 ?_))
    refine x_if_eq (tgt := 35) dX0_wayAt_5 rfl (by split <;> omega) (fun c5 => ?_) (fun c5 => ?_)
    · skip
      refine x_iconst dX0_wayAt_35 ?_
      refine x_iret dX0_wayAt_36 rfl ?_
      exact kn
    · have hm1 : 0 ≤ m ∧ m < tM T := by split at c5 <;> omega
      have hma := htx.man hm1.1 hm1.2
      have hE := (erd_n hT hm1).1
      refine x_iload_2 dX0_wayAt_8 ?_
      refine x_iconst dX0_wayAt_9 ?_
      refine x_aload_0 dX0_wayAt_10 ?_
      refine x_getW dX0_wayAt_11 fl574_0 rfl (by first | (exact MkL.k0 (by assumption)) | (assumption)) (by assumption) ?_
      refine x_getR dX0_wayAt_14 fl352_4 rfl (by first | (exact TxL.k0 (by assumption)) | (assumption)) (by first | (rfl) | (assumption)) ?_
      refine x_iload_1 dX0_wayAt_17 ?_
      refine x_callV1 dX0_wayAt_18 rfl okJ5_get q1204 q530 q531 (by first | assumption | (exact TxL.kl (by assumption))) am_k20 rfl (C_J5_get htx.ls hm1 (x_k1 ?_))
      refine x_cast dX0_wayAt_21 q1205 (by first | assumption | (exact ManL.k0 (by assumption))) am_k14 ?_
      refine x_getKI dX0_wayAt_24 fl995_14 (by first | (exact ManL.k0 (by assumption)) | (assumption)) (by first | (exact ManL.errands (by assumption)) | (assumption)) (fun r24 => ?_)
      refine x_iconst dX0_wayAt_27 ?_
      refine x_isub dX0_wayAt_28 ?_
      refine x_callS3 dX0_wayAt_29 rfl okX0_isIn q1201 q1202 rfl (C_X0_isIn hi ⟨by decide, by decide⟩ ⟨by omega, by omega⟩ (x_k1 ?_))
      refine x_if_ne (tgt := 37) dX0_wayAt_32 rfl (by split <;> omega) (fun c32 => ?_) (fun c32 => ?_)
      · exfalso; split at c32 <;> first | omega | (exact h1 ⟨hm1, by omega⟩)
      · refine x_iconst dX0_wayAt_35 ?_
        refine x_iret dX0_wayAt_36 rfl ?_
        exact kn
/-- how many corners a man could live at -/
def lvF (T : Txt) (m y x : Int) : Int := if (wyR T m x y).1 ≤ lng T m then 1 else 0
def livesV (T : Txt) (m : Int) : Int := if 0 ≤ m ∧ m < tM T then sumI (tDeep T) (fun y => sumI (tWide T) (lvF T m y)) else -1
set_option maxHeartbeats 4000000 in
theorem C_X0_lives {m : Int} (hC : CoT L h x t T S) (hT : TxtI T) (hm : rg32 m) (kk : ∀ h', FrS h h' x → Q (.inl [aI (livesV T m)]) L h') : am_C G mX0_lives (d + 430) [aR x, aI m] L h Q := by
  have hK := hC.mk
  have htx := hC.tx
  have hht := hC.ht
  have hM := hT.1
  have hwd := hT.2.1
  have hdp := hT.2.2.1
  refine x_start okX0_lives rfl rfl rfl rfl ?_
  refine x_aload_0 dX0_lives_0 ?_
  refine x_iload_1 dX0_lives_1 ?_
  refine x_callV1 dX0_lives_2 rfl okX0_isMan q1192 q1194 qs32 (by first | assumption | (exact MkL.k0 (by assumption))) am_k0 rfl (C_X0_isMan hC hT hm (x_k1 ?_))
  refine x_if_ne (tgt := 10) dX0_lives_5 rfl (by split <;> omega) (fun c5 => ?_) (fun c5 => ?_)
  · have hm1 : 0 ≤ m ∧ m < tM T := by split at c5 <;> first | assumption | omega
    have hma := htx.man hm1.1 hm1.2
    have bl := lng_bd hT m
    refine x_aload_0 dX0_lives_10 ?_
    refine x_getW dX0_lives_11 fl574_0 rfl (by first | (exact MkL.k0 (by assumption)) | (assumption)) (by assumption) ?_
    refine x_getR dX0_lives_14 fl352_4 rfl (by first | (exact TxL.k0 (by assumption)) | (assumption)) (by first | (rfl) | (assumption)) ?_
    refine x_iload_1 dX0_lives_17 ?_
    refine x_callV1 dX0_lives_18 rfl okJ5_get q1204 q530 q531 (by first | assumption | (exact TxL.kl (by assumption))) am_k20 rfl (C_J5_get htx.ls hm1 (x_k1 ?_))
    refine x_cast dX0_lives_21 q1205 (by first | assumption | (exact ManL.k0 (by assumption))) am_k14 ?_
    refine x_astore_2 dX0_lives_24 rfl ?_
    refine x_iconst dX0_lives_25 ?_
    refine x_istore_3 dX0_lives_26 rfl ?_
    refine x_aload_0 dX0_lives_27 ?_
    refine x_aload_2 dX0_lives_28 ?_
    refine x_callV1 dX0_lives_29 rfl okX0_laysLeft q1354 q1356 qs39 (by first | assumption | (exact MkL.k0 (by assumption))) am_k0 rfl (C_X0_laysLeft hC hT hm1 (fun h1 f1 l1 => (x_k0 ?_)))
    refine x_iconst dX0_lives_32 ?_
    refine x_istore4 dX0_lives_33 rfl ?_
    have hC1 := hC.fr f1.fs
    have hht1 := hC1.ht
    have hcl := hC1.cl
    have el := (hC1.rc.2.2.1 m hm1.1 hm1.2).2.2
    refine x_up1 (tDeep T) (fun y w => 0 ≤ y → y ≤ tDeep T → am_X G mX0_lives (d + 430) 35 [aR x, aI m, aR (manA L t m), aI (sumI y (fun y => sumI (tWide T) (lvF T m y))), aI y, w] [] L h1 Q) (fun y w ih g0 g1 => ?_) 0 aU (by omega) (by omega)
    refine x_iload4 dX0_lives_35 ?_
    refine x_aload_0 dX0_lives_37 ?_
    refine x_getW dX0_lives_38 fl574_0 rfl (by first | (exact MkL.k0 (by assumption)) | (assumption)) (by assumption) ?_
    refine x_getKI dX0_lives_41 fl371_4 (by first | (exact TxL.k0 (by assumption)) | (assumption)) (by first | (exact TxL.vD (by assumption)) | (assumption)) (fun r41 => ?_)
    refine x_icmp_ge (tgt := 103) dX0_lives_44 rfl (by omega) (by omega) (fun c44 => ?_) (fun c44 => ?_)
    · refine x_iload_3 dX0_lives_103 ?_
      refine x_iret dX0_lives_104 rfl ?_
      rw [show y = tDeep T by omega]
      refine x_q1 ?_ (kk h1 f1.fs)
      unfold livesV
      rw [if_pos hm1]
    · refine x_iconst dX0_lives_47 ?_
      refine x_istore5 dX0_lives_48 rfl ?_
      suffices H : am_X G mX0_lives (d + 430) 50 [aR x, aI m, aR (manA L t m), aI (sumI y (fun y => sumI (tWide T) (lvF T m y)) + sumI 0 (lvF T m y)), aI y, aI 0] [] L h1 Q by
        rw [sumI_0, Int.add_zero] at H
        exact H
      refine x_up0 (tWide T) (fun i => 0 ≤ i → i ≤ tWide T → am_X G mX0_lives (d + 430) 50 [aR x, aI m, aR (manA L t m), aI (sumI y (fun y => sumI (tWide T) (lvF T m y)) + sumI i (lvF T m y)), aI y, aI i] [] L h1 Q) (fun i ih2 y0 y1 => ?_) 0 (by omega) (by omega)
      refine x_iload5 dX0_lives_50 ?_
      refine x_aload_0 dX0_lives_52 ?_
      refine x_getW dX0_lives_53 fl574_0 rfl (by first | (exact MkL.k0 (by assumption)) | (assumption)) (by assumption) ?_
      refine x_getKI dX0_lives_56 fl368_4 (by first | (exact TxL.k0 (by assumption)) | (assumption)) (by first | (exact TxL.vW (by assumption)) | (assumption)) (fun r56 => ?_)
      refine x_icmp_ge (tgt := 97) dX0_lives_59 rfl (by omega) (by omega) (fun c59 => ?_) (fun c59 => ?_)
      · refine x_iinc4 dX0_lives_97 rfl ?_
        refine x_goto (tgt := 35) dX0_lives_100 rfl ?_
        have := ih (by omega) (aI i) (by omega) (by omega)
        rw [sumI_s _ g0] at this
        rw [show i = tWide T by omega] at this ⊢
        exact this
      · have wb1 := wyR_bd hT hm1 (u := i) (v := y) ⟨by omega, by omega⟩ ⟨by omega, by omega⟩
        refine x_iload_3 dX0_lives_62 ?_
        refine x_aload_0 dX0_lives_63 ?_
        refine x_aload_2 dX0_lives_64 ?_
        refine x_iload5 dX0_lives_65 ?_
        refine x_iload4 dX0_lives_67 ?_
        refine x_callV3 dX0_lives_69 rfl okX0_wayFrom q1362 q1364 qs40 (by first | assumption | (exact MkL.k0 (by assumption))) am_k0 rfl (C_X0_wayFrom hC1 hT hm1 l1 ⟨by omega, by omega⟩ ⟨by omega, by omega⟩ (x_k1 ?_))
        refine x_aload_0 dX0_lives_72 ?_
        refine x_getR dX0_lives_73 fl578_0 rfl (by first | (exact MkL.k0 (by assumption)) | (assumption)) (by first | (exact MkL.v_cloth (by assumption)) | (assumption)) ?_
        refine x_getR dX0_lives_76 fl441_5 rfl (by first | (exact ClL.k0 (by assumption)) | (assumption)) (by first | (exact ClL.f3 (by assumption)) | (assumption)) ?_
        refine x_iload_1 dX0_lives_79 ?_
        refine x_iald_ dX0_lives_80 (by first | (exact ClL.k4 (by assumption)) | (assumption)) (by first | (exact ClL.r4 (by assumption) (by omega) (by omega)) | (omega)) (fun r80 => ?_)
        rw [el] at r80 ⊢
        refine x_icmp_gt (tgt := 88) dX0_lives_81 rfl (by omega) (by omega) (fun c81 => ?_) (fun c81 => ?_)
        · refine x_iconst dX0_lives_88 ?_
          refine x_iadd dX0_lives_89 ?_
          refine x_istore_3 dX0_lives_90 rfl ?_
          refine x_iinc5 dX0_lives_91 rfl ?_
          refine x_goto (tgt := 50) dX0_lives_94 rfl ?_
          have := ih2 (by omega) (by omega) (by omega)
          rw [sumI_s _ y0, ← Int.add_assoc] at this
          have e : lvF T m y i = if (wyR T m i y).1 ≤ lng T m then 1 else 0 := rfl
          first
          | (rw [if_pos (by omega)] at e; rw [e] at this; exact this)
          | (rw [if_neg (by omega)] at e; rw [e] at this; exact this)
        · refine x_iconst dX0_lives_84 ?_
          refine x_goto (tgt := 89) dX0_lives_85 rfl ?_
          refine x_iadd dX0_lives_89 ?_
          refine x_istore_3 dX0_lives_90 rfl ?_
          refine x_iinc5 dX0_lives_91 rfl ?_
          refine x_goto (tgt := 50) dX0_lives_94 rfl ?_
          have := ih2 (by omega) (by omega) (by omega)
          rw [sumI_s _ y0, ← Int.add_assoc] at this
          have e : lvF T m y i = if (wyR T m i y).1 ≤ lng T m then 1 else 0 := rfl
          first
          | (rw [if_pos (by omega)] at e; rw [e] at this; exact this)
          | (rw [if_neg (by omega)] at e; rw [e] at this; exact this)
  · refine x_iconst dX0_lives_8 ?_
    refine x_iret dX0_lives_9 rfl ?_
    refine x_q1 ?_ (kk h (FrS.rf h x))
    unfold livesV
    rw [if_neg (fun z => by rw [if_pos z] at c5; omega)]
end WAYC
