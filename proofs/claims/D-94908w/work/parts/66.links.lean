/-! OPERATIONS: links -/
set_option maxRecDepth 100000
theorem tb_sub2 : (List.range 128).all (fun a => (List.range 128).all (fun c => decide (dif (a : Nat) (c : Nat) = 0 → a ≠ c → bits (a : Nat) < bits (c : Nat)))) = true := by decide +kernel
theorem sub_lt {a c : Int} (ha : 0 ≤ a ∧ a < 128) (hc : 0 ≤ c ∧ c < 128) (h : ∀ m, 0 ≤ m → m < 7 → bt a m = 1 → bt c m = 1) (hne : a ≠ c) : bits a < bits c := by
  have e : dif a c = 0 := by
    refine bt_ext (dif_bt ha hc (m := 0) ⟨by decide, by decide⟩).2 ⟨by decide, by decide⟩ fun m z0 z1 => ?_
    rw [(dif_bt ha hc (m := m) ⟨z0, z1⟩).1, bt_0 ⟨z0, z1⟩, if_neg (fun z => by have := h m z0 z1 z.1; omega)]
  obtain ⟨a, rfl, ha'⟩ := nat_lt (n := 128) ha
  obtain ⟨c, rfl, hc'⟩ := nat_lt (n := 128) hc
  exact tb2 tb_sub2 ha' hc' e (fun z => hne (by rw [z]))
section LINKS
variable {G : am_G} {d : Nat} {L : am_L} {h h' : am_H} {Q : am_O → am_L → am_H → Prop} {x o s t : Int} {T : Txt} {S : Row} {b q : Int}
def lkA (T : Txt) (S : Row) (m : Int) : Nat → Int
  | 0 => bShl 1 m
  | n + 1 => arR T S (lkA T S m n)
theorem lkA_ok (hT : TxtI T) {m : Int} (hm : 0 ≤ m ∧ m < 7) : ∀ n : Nat, 0 ≤ lkA T S m n ∧ lkA T S m n < 128
  | 0 => (shl_bt hm (o := 0) ⟨by decide, by decide⟩).2
  | n + 1 => (arR_ok hT (lkA_ok hT hm n)).1
def linG (T : Txt) (S : Row) (m n : Int) : Nat → Nat → Int
  | 0, _ => -2
  | r + 1, k => if bt (lkA T S m k) n = 1 then k else linG T S m n r (k + 1)
def linksV (T : Txt) (S : Row) (m n : Int) : Int := if (0 ≤ m ∧ m < tM T) ∧ (0 ≤ n ∧ n < tM T) ∧ m ≠ n then linG T S m n 6 1 else -1
theorem linG_no {m n : Int} : ∀ (r k : Nat), (∀ j, k ≤ j → bt (lkA T S m j) n ≠ 1) → linG T S m n r k = -2
  | 0, _, _ => rfl
  | r + 1, k, h => by
    unfold linG
    rw [if_neg (h k (Nat.le_refl _))]
    exact linG_no r (k + 1) (fun j z => h j (by omega))
theorem lkA_st {m : Int} {k : Nat} (h : lkA T S m (k + 1) = lkA T S m k) : ∀ j, k ≤ j → lkA T S m j = lkA T S m k := by
  intro j hj
  induction hj with
  | refl => rfl
  | step _ ih =>
    show arR T S (lkA T S m _) = _
    rw [ih]
    exact h
theorem links_one {m : Int} (hm : 0 ≤ m ∧ m < 7) : 1 ≤ bits (bShl 1 m) := by
  obtain ⟨m, rfl, hm'⟩ := nat_lt (n := 7) hm
  have : (List.range 7).all (fun m => decide (1 ≤ bits (bShl 1 (m : Nat)))) = true := by decide +kernel
  exact tb1 this hm'
set_option maxHeartbeats 4000000 in
theorem C_X13_links {m n : Int} (hC : TwT L h o s T S) (hT : TxtI T) (hI : RowI T S b q) (hm : rg32 m) (hn : rg32 n) (k : ∀ h', FrW h h' o → Q (.inl [aI (linksV T S m n)]) L h') : am_C G mX13_links (d + 12) [aR o, aI m, aI n] L h Q := by
  have hM := hC.1
  have hL := hM.1
  have h7 := hT.1
  refine x_start okX13_links rfl rfl rfl rfl ?_
  refine x_aload_0 dX13_links_0 ?_
  refine x_iload_1 dX13_links_1 ?_
  refine x_iload_2 dX13_links_2 ?_
  refine x_callV2 dX13_links_3 rfl okX13_areTwo q2034 q2036 qs93 (by first | assumption | (exact MdL.k0 (by assumption))) am_k13 rfl (C_X13_areTwo hM hT hm hn (x_k1 ?_))
  refine x_if_ne (tgt := 11) dX13_links_6 rfl (by split <;> omega) (fun c6 => ?_) (fun c6 => ?_)
  · have h2 : (0 ≤ m ∧ m < tM T) ∧ (0 ≤ n ∧ n < tM T) ∧ m ≠ n := by split at c6 <;> first | assumption | omega
    have eV : linksV T S m n = linG T S m n 6 1 := if_pos h2
    refine x_aload_0 dX13_links_11 ?_
    refine x_callV0 dX13_links_12 rfl okX13_copies q1934 q1936 qs81 (by first | assumption | (exact MdL.k0 (by assumption))) am_k13 rfl (C_X13_copiesR hL hC.2 hI hT (fun h1 e1 f1 e2 e3 => (x_k0 ?_)))
    refine x_iconst dX13_links_15 ?_
    refine x_iload_1 dX13_links_16 ?_
    refine x_ishl dX13_links_17 ?_
    refine x_istore_3 dX13_links_18 rfl ?_
    refine x_iconst dX13_links_19 ?_
    refine x_istore4 dX13_links_20 rfl ?_
    have hM1 := hM.fr f1
    suffices H : ∀ (r i : Nat), r + i = 6 → linksV T S m n = linG T S m n r (i + 1) → am_X G mX13_links (d + 12) 22 [aR o, aI m, aI n, aI (lkA T S m i), aI ((i : Int) + 1)] [] L h1 Q from H 6 0 rfl eV
    intro r
    induction r with
    | zero =>
      intro i z1 z2
      refine x_iload4 dX13_links_22 ?_
      refine x_bipush dX13_links_24 rfl ?_
      refine x_icmp_ge (tgt := 53) dX13_links_26 rfl (by omega) (by omega) (fun c26 => ?_) (fun c26 => ?_)
      · refine x_bipush dX13_links_53 rfl ?_
        refine x_iret dX13_links_55 rfl ?_
        exact x_q1 z2.symm (k h1 f1)
      · exfalso; omega
    | succ r ih =>
      intro i z1 z2
      have la := lkA_ok (S := S) hT (m := m) ⟨h2.1.1, by omega⟩ i
      have lb := lkA_ok (S := S) hT (m := m) ⟨h2.1.1, by omega⟩ (i + 1)
      have hbt : bt (lkA T S m (i + 1)) n = bAnd (bShr (lkA T S m (i + 1)) n) 1 := rfl
      have b01 := bt_01 (lkA T S m (i + 1)) n
      unfold linG at z2
      refine x_iload4 dX13_links_22 ?_
      refine x_bipush dX13_links_24 rfl ?_
      refine x_icmp_ge (tgt := 53) dX13_links_26 rfl (by omega) (by omega) (fun c26 => ?_) (fun c26 => ?_)
      · exfalso; omega
      · refine x_aload_0 dX13_links_29 ?_
        refine x_iload_3 dX13_links_30 ?_
        refine x_callV1 dX13_links_31 rfl okX13_linkedTo q2185 q2187 qs109 (by first | assumption | (exact MdL.k0 (by assumption))) am_k13 rfl (C_X13_linkedTo hM1 e2 hT hI la (x_k1 ?_))
        show am_X G mX13_links _ 34 _ [aI (lkA T S m (i + 1))] _ _ _
        refine x_istore_3 dX13_links_34 rfl ?_
        refine x_iload_3 dX13_links_35 ?_
        refine x_iload_2 dX13_links_36 ?_
        refine x_ishr dX13_links_37 ?_
        refine x_iconst dX13_links_38 ?_
        refine x_iand dX13_links_39 ?_
        refine x_iconst dX13_links_40 ?_
        refine x_icmp_ne (tgt := 47) dX13_links_41 rfl (by omega) (by omega) (fun c41 => ?_) (fun c41 => ?_)
        · rw [if_neg (by omega)] at z2
          refine x_iinc4 dX13_links_47 rfl ?_
          refine x_goto (tgt := 22) dX13_links_50 rfl ?_
          exact ih (i + 1) (by omega) z2
        · refine x_iload4 dX13_links_44 ?_
          refine x_iret dX13_links_46 rfl ?_
          rw [if_pos (by omega)] at z2
          exact x_q1 (by rw [z2]; omega) (k h1 f1)
  · refine x_iconst dX13_links_9 ?_
    refine x_iret dX13_links_10 rfl ?_
    refine x_q1 ?_ (k h (FrW.rf h o))
    unfold linksV
    rw [if_neg (by split at c6 <;> omega)]
set_option maxHeartbeats 4000000 in
theorem C_X0_links {m n : Int} (hC : CoT L h x t T S) (hT : TxtI T) (hI : RowI T S b q) (hm : rg32 m) (hn : rg32 n) (k : Q (.inl [aI (linksV T S m n)]) L h) : am_C G mX0_links (d + 10) [aR x, aI m, aI n] L h Q := by
  have hK := hC.mk
  have h7 := hT.1
  refine x_start okX0_links rfl rfl rfl rfl ?_
  refine x_aload_0 dX0_links_0 ?_
  refine x_iload_1 dX0_links_1 ?_
  refine x_iload_2 dX0_links_2 ?_
  refine x_callV2 dX0_links_3 rfl okX0_areTwo q1307 q1309 qs35 (by first | assumption | (exact MkL.k0 (by assumption))) am_k0 rfl (C_X0_areTwo hC hT hm hn (x_k1 ?_))
  refine x_if_ne (tgt := 11) dX0_links_6 rfl (by split <;> omega) (fun c6 => ?_) (fun c6 => ?_)
  · have h2 : (0 ≤ m ∧ m < tM T) ∧ (0 ≤ n ∧ n < tM T) ∧ m ≠ n := by split at c6 <;> first | assumption | omega
    have eV : linksV T S m n = linG T S m n 6 1 := if_pos h2
    have hm7 : 0 ≤ m ∧ m < 7 := ⟨h2.1.1, by omega⟩
    have sb := (shl_bt hm7 (o := n) ⟨h2.2.1.1, by omega⟩).1
    rw [if_neg (fun z => h2.2.2 z.symm)] at sb
    refine x_iconst dX0_links_11 ?_
    refine x_iload_1 dX0_links_12 ?_
    refine x_ishl dX0_links_13 ?_
    refine x_istore_3 dX0_links_14 rfl ?_
    refine x_iconst dX0_links_15 ?_
    refine x_istore4 dX0_links_16 rfl ?_
    refine x_aload_0 dX0_links_18 ?_
    refine x_iload_3 dX0_links_19 ?_
    refine x_callV1 dX0_links_20 rfl okX0_around q1468 q1470 qs46 (by first | assumption | (exact MkL.k0 (by assumption))) am_k0 rfl (C_X0_around hC hT hI (lkA_ok (S := S) hT hm7 0) (x_k1 ?_))
    refine x_istore5 dX0_links_23 rfl ?_
    suffices H : ∀ (r i : Nat), r + i = 7 → (i : Int) + 1 ≤ bits (lkA T S m i) → linksV T S m n = (if i = 0 then linG T S m n 6 1 else linG T S m n r i) → am_X G mX0_links (d + 10) 25 [aR x, aI m, aI n, aI (lkA T S m i), aI i, aI (lkA T S m (i + 1))] [] L h Q from H 7 0 rfl (links_one hm7) (by rw [if_pos rfl]; exact eV)
    intro r
    induction r with
    | zero =>
      intro i z1 z2
      have := bits_bd (lkA T S m i)
      omega
    | succ r ih =>
      intro i z1 z2 z3
      have la := lkA_ok (S := S) hT hm7 i
      have lb := lkA_ok (S := S) hT hm7 (i + 1)
      have hbt : bt (lkA T S m i) n = bAnd (bShr (lkA T S m i) n) 1 := rfl
      have b01 := bt_01 (lkA T S m i) n
      have bb := bits_bd (lkA T S m (i + 1))
      refine x_iload_3 dX0_links_25 ?_
      refine x_iload_2 dX0_links_26 ?_
      refine x_ishr dX0_links_27 ?_
      refine x_iconst dX0_links_28 ?_
      refine x_iand dX0_links_29 ?_
      refine x_if_ne (tgt := 55) dX0_links_30 rfl (by omega) (fun c30 => ?_) (fun c30 => ?_)
      · skip
        refine x_iload_3 dX0_links_55 ?_
        refine x_iload_2 dX0_links_56 ?_
        refine x_ishr dX0_links_57 ?_
        refine x_iconst dX0_links_58 ?_
        refine x_iand dX0_links_59 ?_
        refine x_iconst dX0_links_60 ?_
        refine x_icmp_ne (tgt := 69) dX0_links_61 rfl (by omega) (by omega) (fun c61 => ?_) (fun c61 => ?_)
        · refine x_bipush dX0_links_69 rfl ?_
          refine x_iret dX0_links_71 rfl ?_
          refine x_q1 ?_ k
          rw [z3]
          by_cases e0 : i = 0
          · subst e0
            rw [if_pos rfl]
            have e : bt (lkA T S m 0) n = 0 := sb
            first
            | exfalso; omega
            | refine (linG_no 6 1 fun j _ => ?_).symm
              rw [lkA_st (k := 0) (by omega) j (by omega)]
              omega
          · rw [if_neg e0]
            first
            | (unfold linG; rw [if_pos (by omega)]; done)
            | refine (linG_no (r + 1) i fun j hj => ?_).symm
              rw [lkA_st (k := i) (by omega) j hj]
              omega
        · refine x_iload4 dX0_links_64 ?_
          refine x_goto (tgt := 71) dX0_links_66 rfl ?_
          refine x_iret dX0_links_71 rfl ?_
          refine x_q1 ?_ k
          rw [z3]
          by_cases e0 : i = 0
          · subst e0
            rw [if_pos rfl]
            have e : bt (lkA T S m 0) n = 0 := sb
            first
            | exfalso; omega
            | refine (linG_no 6 1 fun j _ => ?_).symm
              rw [lkA_st (k := 0) (by omega) j (by omega)]
              omega
          · rw [if_neg e0]
            first
            | (unfold linG; rw [if_pos (by omega)]; done)
            | refine (linG_no (r + 1) i fun j hj => ?_).symm
              rw [lkA_st (k := i) (by omega) j hj]
              omega
      · refine x_iload5 dX0_links_33 ?_
        refine x_iload_3 dX0_links_35 ?_
        refine x_icmp_eq (tgt := 55) dX0_links_36 rfl (by omega) (by omega) (fun c36 => ?_) (fun c36 => ?_)
        · skip
          refine x_iload_3 dX0_links_55 ?_
          refine x_iload_2 dX0_links_56 ?_
          refine x_ishr dX0_links_57 ?_
          refine x_iconst dX0_links_58 ?_
          refine x_iand dX0_links_59 ?_
          refine x_iconst dX0_links_60 ?_
          refine x_icmp_ne (tgt := 69) dX0_links_61 rfl (by omega) (by omega) (fun c61 => ?_) (fun c61 => ?_)
          · refine x_bipush dX0_links_69 rfl ?_
            refine x_iret dX0_links_71 rfl ?_
            refine x_q1 ?_ k
            rw [z3]
            by_cases e0 : i = 0
            · subst e0
              rw [if_pos rfl]
              have e : bt (lkA T S m 0) n = 0 := sb
              first
              | exfalso; omega
              | refine (linG_no 6 1 fun j _ => ?_).symm
                rw [lkA_st (k := 0) (by omega) j (by omega)]
                omega
            · rw [if_neg e0]
              first
              | (unfold linG; rw [if_pos (by omega)]; done)
              | refine (linG_no (r + 1) i fun j hj => ?_).symm
                rw [lkA_st (k := i) (by omega) j hj]
                omega
          · refine x_iload4 dX0_links_64 ?_
            refine x_goto (tgt := 71) dX0_links_66 rfl ?_
            refine x_iret dX0_links_71 rfl ?_
            refine x_q1 ?_ k
            rw [z3]
            by_cases e0 : i = 0
            · subst e0
              rw [if_pos rfl]
              have e : bt (lkA T S m 0) n = 0 := sb
              first
              | exfalso; omega
              | refine (linG_no 6 1 fun j _ => ?_).symm
                rw [lkA_st (k := 0) (by omega) j (by omega)]
                omega
            · rw [if_neg e0]
              first
              | (unfold linG; rw [if_pos (by omega)]; done)
              | refine (linG_no (r + 1) i fun j hj => ?_).symm
                rw [lkA_st (k := i) (by omega) j hj]
                omega
        · have hlt := sub_lt la lb (arR_ok hT la).2 (by omega)
          refine x_iload5 dX0_links_39 ?_
          refine x_istore_3 dX0_links_41 rfl ?_
          refine x_aload_0 dX0_links_42 ?_
          refine x_iload_3 dX0_links_43 ?_
          refine x_callV1 dX0_links_44 rfl okX0_around q1468 q1470 qs46 (by first | assumption | (exact MkL.k0 (by assumption))) am_k0 rfl (C_X0_around hC hT hI lb (x_k1 ?_))
          refine x_istore5 dX0_links_47 rfl ?_
          refine x_iinc4 dX0_links_49 rfl ?_
          refine x_goto (tgt := 25) dX0_links_52 rfl ?_
          refine ih (i + 1) (by omega) (by omega) ?_
          rw [z3, if_neg (show ¬ i + 1 = 0 by omega)]
          by_cases e0 : i = 0
          · subst e0
            rw [if_pos rfl]
            rw [show r = 6 by omega]
          · rw [if_neg e0]
            show (if bt (lkA T S m i) n = 1 then ((i : Nat) : Int) else linG T S m n r (i + 1)) = _
            rw [if_neg (by omega)]
  · refine x_iconst dX0_links_9 ?_
    refine x_iret dX0_links_10 rfl ?_
    refine x_q1 ?_ k
    unfold linksV
    rw [if_neg (by split at c6 <;> omega)]
end LINKS
