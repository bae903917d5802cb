/-! OPERATIONS: most, unfair, nearest -/
set_option maxRecDepth 100000
section MOST
variable {G : am_G} {d : Nat} {L : am_L} {h h' : am_H} {Q : am_O → am_L → am_H → Prop} {x o s t : Int} {T : Txt} {S : Row} {b q : Int}
/-- how many of m's pieces lie over the others' -/
def oaF (S : Row) (m n : Int) : Int := if n = m then 0 else ovR S m n
def oaR (T : Txt) (S : Row) (m : Int) : Int := sumI (tM T) (oaF S m)
theorem oaF_bd (hI : RowI T S b q) (hT : TxtI T) {m n : Int} (hm : 0 ≤ m ∧ m < 7) (hn : 0 ≤ n ∧ n < 7) : 0 ≤ oaF S m n ∧ oaF S m n ≤ 3600 := by
  unfold oaF
  split
  · omega
  · exact ovR_bd hI hT hm hn
theorem oa_bd (hI : RowI T S b q) (hT : TxtI T) {m n : Int} (hm : 0 ≤ m ∧ m < 7) (hn : 0 ≤ n ∧ n ≤ tM T) : 0 ≤ sumI n (oaF S m) ∧ sumI n (oaF S m) ≤ 25200 := by
  have hM := hT.1
  have := sumI_bd (n := n) (b := 3600) (f := oaF S m) hn.1 (fun k z0 z1 => oaF_bd hI hT hm ⟨z0, by omega⟩)
  omega
theorem C_X0_overAll {m : Int} (hC : CoT L h x t T S) (hT : TxtI T) (hI : RowI T S b q) (hm : 0 ≤ m ∧ m < tM T) (k : Q (.inl [aI (oaR T S m)]) L h) : am_C G mX0_overAll (d + 10) [aR x, aI m] L h Q := by
  have hK := hC.mk
  have hM := hT.1
  have hcl := hC.cl
  refine x_start okX0_overAll rfl rfl rfl rfl ?_
  refine x_iconst dX0_overAll_0 ?_
  refine x_istore_2 dX0_overAll_1 rfl ?_
  refine x_iconst dX0_overAll_2 ?_
  refine x_istore_3 dX0_overAll_3 rfl ?_
  skip
  refine x_up0 (tM T) (fun i => 0 ≤ i → i ≤ tM T → am_X G mX0_overAll (d + 10) 4 [aR x, aI m, aI (sumI i (oaF S m)), aI i] [] L h Q) (fun i ih g0 g1 => ?_) 0 (by omega) hM.1
  have nxt : ∀ v, i < tM T → v = sumI (i + 1) (oaF S m) → am_X G mX0_overAll (d + 10) 4 [aR x, aI m, aI v, aI (i + 1)] [] L h Q := fun v z e => by rw [e]; exact ih z (by omega) (by omega)
  refine x_iload_3 dX0_overAll_4 ?_
  refine x_aload_0 dX0_overAll_5 ?_
  refine x_callV0 dX0_overAll_6 rfl okX0_men q1196 q1198 qs33 (by first | assumption | (exact MkL.k0 (by assumption))) am_k0 rfl (C_X0_men hC (x_k1 ?_))
  refine x_icmp_ge (tgt := 39) dX0_overAll_9 rfl (by omega) (by omega) (fun c9 => ?_) (fun c9 => ?_)
  · refine x_iload_2 dX0_overAll_39 ?_
    refine x_iret dX0_overAll_40 rfl ?_
    rw [show i = tM T by omega]
    exact k
  · refine x_iload_2 dX0_overAll_12 ?_
    refine x_iload_3 dX0_overAll_13 ?_
    refine x_iload_1 dX0_overAll_14 ?_
    refine x_icmp_ne (tgt := 22) dX0_overAll_15 rfl (by omega) (by omega) (fun c15 => ?_) (fun c15 => ?_)
    · refine x_aload_0 dX0_overAll_22 ?_
      refine x_getR dX0_overAll_23 fl578_0 rfl (by first | (exact MkL.k0 (by assumption)) | (assumption)) (by first | (exact MkL.v_cloth (by assumption)) | (assumption)) ?_
      refine x_iload_1 dX0_overAll_26 ?_
      refine x_iload_3 dX0_overAll_27 ?_
      refine x_callV2 dX0_overAll_28 rfl okX5_over q1311 q1312 q1313 (by first | assumption | (exact ClL.k0 (by assumption))) am_k5 rfl (C_X5_over hC.rc hI hT ⟨by omega, by omega⟩ ⟨by omega, by omega⟩ (x_k1 ?_))
      refine x_iadd dX0_overAll_31 ?_
      refine x_istore_2 dX0_overAll_32 rfl ?_
      refine x_iinc3 dX0_overAll_33 rfl ?_
      refine x_goto (tgt := 4) dX0_overAll_36 rfl ?_
      refine nxt _ (by omega) ?_
      rw [sumI_s _ g0]
      unfold oaF
      first | (rw [if_pos (by omega)]; done) | (rw [if_neg (by omega)]; done)
    · refine x_iconst dX0_overAll_18 ?_
      refine x_goto (tgt := 31) dX0_overAll_19 rfl ?_
      refine x_iadd dX0_overAll_31 ?_
      refine x_istore_2 dX0_overAll_32 rfl ?_
      refine x_iinc3 dX0_overAll_33 rfl ?_
      refine x_goto (tgt := 4) dX0_overAll_36 rfl ?_
      refine nxt _ (by omega) ?_
      rw [sumI_s _ g0]
      unfold oaF
      first | (rw [if_pos (by omega)]; done) | (rw [if_neg (by omega)]; done)
theorem C_X13_overAll {m : Int} (hM : MdT L h o s T) (hR : RwF (h (o + 38)) (tM T) S) (hT : TxtI T) (hI : RowI T S b q) (hm : 0 ≤ m ∧ m < tM T) (k : Q (.inl [aI (oaR T S m)]) L h) : am_C G mX13_overAll (d + 4) [aR o, aI m] L h Q := by
  have hL := hM.1
  have hs := hM.2.1
  have hlv := hM.2.2.1
  have hmen := hM.2.2.2.1
  have hM7 := hT.1
  refine x_start okX13_overAll rfl rfl rfl rfl ?_
  refine x_iconst dX13_overAll_0 ?_
  refine x_istore_2 dX13_overAll_1 rfl ?_
  refine x_iconst dX13_overAll_2 ?_
  refine x_istore_3 dX13_overAll_3 rfl ?_
  skip
  refine x_up0 (tM T) (fun i => 0 ≤ i → i ≤ tM T → am_X G mX13_overAll (d + 4) 4 [aR o, aI m, aI (sumI i (oaF S m)), aI i] [] L h Q) (fun i ih g0 g1 => ?_) 0 (by omega) hM7.1
  have nxt : ∀ v, i < tM T → v = sumI (i + 1) (oaF S m) → am_X G mX13_overAll (d + 4) 4 [aR o, aI m, aI v, aI (i + 1)] [] L h Q := fun v z e => by rw [e]; exact ih z (by omega) (by omega)
  refine x_iload_3 dX13_overAll_4 ?_
  refine x_aload_0 dX13_overAll_5 ?_
  refine x_getR dX13_overAll_6 fl1598_13 rfl (by first | (exact MdL.k0 (by assumption)) | (assumption)) (by first | (exact MdL.v_men (by assumption)) | (assumption)) ?_
  refine x_aload_0 dX13_overAll_9 ?_
  refine x_getI_ dX13_overAll_10 fl1592_13 (by first | (exact MdL.k0 (by assumption)) | (assumption)) (fun r10 => ?_)
  rw [hlv] at r10 ⊢
  refine x_iald_ dX13_overAll_13 (by first | (exact MdL.k_men (by assumption)) | (assumption)) (by first | (exact MdL.x_men (by assumption) (by omega) (by omega)) | (omega)) (fun r13 => ?_)
  rw [hmen] at r13 ⊢
  refine x_icmp_ge (tgt := 37) dX13_overAll_14 rfl (by omega) (by omega) (fun c14 => ?_) (fun c14 => ?_)
  · refine x_iload_2 dX13_overAll_37 ?_
    refine x_iret dX13_overAll_38 rfl ?_
    rw [show i = tM T by omega]
    exact k
  · refine x_iload_3 dX13_overAll_17 ?_
    refine x_iload_1 dX13_overAll_18 ?_
    refine x_icmp_eq (tgt := 31) dX13_overAll_19 rfl (by omega) (by omega) (fun c19 => ?_) (fun c19 => ?_)
    · refine x_iinc3 dX13_overAll_31 rfl ?_
      refine x_goto (tgt := 4) dX13_overAll_34 rfl ?_
      refine nxt _ (by omega) ?_
      rw [sumI_s _ g0]
      unfold oaF
      first | (rw [if_pos (by omega)]; omega) | (rw [if_neg (by omega)]; done)
    · refine x_iload_2 dX13_overAll_22 ?_
      refine x_aload_0 dX13_overAll_23 ?_
      refine x_iload_1 dX13_overAll_24 ?_
      refine x_iload_3 dX13_overAll_25 ?_
      refine x_callV2 dX13_overAll_26 rfl okX13_overOf q2038 q2040 qs94 (by first | assumption | (exact MdL.k0 (by assumption))) am_k13 rfl (C_X13_overOf hL hR hI hT hm ⟨g0, by omega⟩ (x_k1 ?_))
      refine x_iadd dX13_overAll_29 ?_
      refine x_istore_2 dX13_overAll_30 rfl ?_
      refine x_iinc3 dX13_overAll_31 rfl ?_
      refine x_goto (tgt := 4) dX13_overAll_34 rfl ?_
      refine nxt _ (by omega) ?_
      rw [sumI_s _ g0]
      unfold oaF
      first | (rw [if_pos (by omega)]; omega) | (rw [if_neg (by omega)]; done)
/-- who of the first n is over most; how it goes -/
def bestI (T : Txt) (S : Row) : Nat → Int
  | 0 => -2
  | n + 1 => if bestI T S n < 0 ∨ oaR T S (bestI T S n) < oaR T S n then n else bestI T S n
theorem bestI_ok (T : Txt) (S : Row) : ∀ n : Nat, (n = 0 ∧ bestI T S n = -2) ∨ (0 ≤ bestI T S n ∧ bestI T S n < n)
  | 0 => Or.inl ⟨rfl, rfl⟩
  | n + 1 => by
    have := bestI_ok T S n
    refine Or.inr ?_
    unfold bestI
    split <;> omega
theorem bestI_s {i : Int} (h : 0 ≤ i) : bestI T S (i + 1).toNat = if bestI T S i.toNat < 0 ∨ oaR T S (bestI T S i.toNat) < oaR T S i then i else bestI T S i.toNat := by
  rw [show (i + 1).toNat = i.toNat + 1 by omega]
  show (if _ ∨ _ < oaR T S (i.toNat : Nat) then ((i.toNat : Nat) : Int) else _) = _
  rw [show ((i.toNat : Nat) : Int) = i by omega]
def mostV (T : Txt) (S : Row) (w : Int) : Int := if ¬ (0 ≤ w ∧ w ≤ 1) then -1 else if tM T = 0 then -2 else if w = 0 then bestI T S (tM T).toNat else oaR T S (bestI T S (tM T).toNat)
set_option maxHeartbeats 4000000 in
theorem C_X0_most {w : Int} (hC : CoT L h x t T S) (hT : TxtI T) (hI : RowI T S b q) (hw : rg32 w) (k : Q (.inl [aI (mostV T S w)]) L h) : am_C G mX0_most (d + 430) [aR x, aI w] L h Q := by
  have hK := hC.mk
  have hM := hT.1
  refine x_start okX0_most rfl rfl rfl rfl ?_
  refine x_iload_1 dX0_most_0 ?_
  refine x_iconst dX0_most_1 ?_
  refine x_iconst dX0_most_2 ?_
  refine x_callS3 dX0_most_3 rfl okX0_isIn q1201 q1202 rfl (C_X0_isIn hw ⟨by decide, by decide⟩ ⟨by decide, by decide⟩ (x_k1 ?_))
  refine x_if_ne (tgt := 11) dX0_most_6 rfl (by split <;> omega) (fun c6 => ?_) (fun c6 => ?_)
  · refine x_bipush dX0_most_11 rfl ?_
    refine x_istore_2 dX0_most_13 rfl ?_
    refine x_iconst dX0_most_14 ?_
    refine x_istore_3 dX0_most_15 rfl ?_
    have hw1 : 0 ≤ w ∧ w ≤ 1 := by split at c6 <;> omega
    refine x_up0 (tM T) (fun i => 0 ≤ i → i ≤ tM T → am_X G mX0_most (d + 430) 16 [aR x, aI w, aI (bestI T S i.toNat), aI i] [] L h Q) (fun i ih g0 g1 => ?_) 0 (by omega) hM.1
    have hb := bestI_ok T S i.toNat
    have nxt : ∀ v, i < tM T → v = bestI T S (i + 1).toNat → am_X G mX0_most (d + 430) 16 [aR x, aI w, aI v, aI (i + 1)] [] L h Q := fun v z e => by rw [e]; exact ih z (by omega) (by omega)
    have boa : ∀ m, 0 ≤ m ∧ m < tM T → 0 ≤ oaR T S m ∧ oaR T S m ≤ 25200 := fun m z => oa_bd hI hT ⟨z.1, by omega⟩ ⟨hM.1, by omega⟩
    refine x_iload_3 dX0_most_16 ?_
    refine x_aload_0 dX0_most_17 ?_
    refine x_callV0 dX0_most_18 rfl okX0_men q1196 q1198 qs33 (by first | assumption | (exact MkL.k0 (by assumption))) am_k0 rfl (C_X0_men hC (x_k1 ?_))
    refine x_icmp_ge (tgt := 49) dX0_most_21 rfl (by omega) (by omega) (fun c21 => ?_) (fun c21 => ?_)
    · have ei : i = tM T := by omega
      subst ei
      refine x_iload_1 dX0_most_49 ?_
      refine x_if_eq (tgt := 57) dX0_most_50 rfl (by omega) (fun c50 => ?_) (fun c50 => ?_)
      · refine x_iload_2 dX0_most_57 ?_
        refine x_goto (tgt := 66) dX0_most_58 rfl ?_
        refine x_iret dX0_most_66 rfl ?_
        refine x_q1 ?_ k
        unfold mostV
        rw [if_neg (by omega)]
        (repeat' split) <;> omega
      · refine x_iload_2 dX0_most_53 ?_
        refine x_if_ge (tgt := 61) dX0_most_54 rfl (by omega) (fun c54 => ?_) (fun c54 => ?_)
        · refine x_aload_0 dX0_most_61 ?_
          refine x_iload_2 dX0_most_62 ?_
          refine x_callV1 dX0_most_63 rfl okX0_overAll q1387 q1389 qs41 (by first | assumption | (exact MkL.k0 (by assumption))) am_k0 rfl (C_X0_overAll hC hT hI ⟨by omega, by omega⟩ (x_k1 ?_))
          refine x_iret dX0_most_66 rfl ?_
          refine x_q1 ?_ k
          unfold mostV
          rw [if_neg (by omega)]
          (repeat' split) <;> omega
        · refine x_iload_2 dX0_most_57 ?_
          refine x_goto (tgt := 66) dX0_most_58 rfl ?_
          refine x_iret dX0_most_66 rfl ?_
          refine x_q1 ?_ k
          unfold mostV
          rw [if_neg (by omega)]
          (repeat' split) <;> omega
    · refine x_iload_2 dX0_most_24 ?_
      refine x_if_lt (tgt := 41) dX0_most_25 rfl (by omega) (fun c25 => ?_) (fun c25 => ?_)
      · refine x_iload_3 dX0_most_41 ?_
        refine x_istore_2 dX0_most_42 rfl ?_
        refine x_iinc3 dX0_most_43 rfl ?_
        refine x_goto (tgt := 16) dX0_most_46 rfl ?_
        refine nxt _ (by omega) ?_
        rw [bestI_s g0]
        first | (rw [if_pos (Or.inl (by omega))]; done) | (rw [if_pos (Or.inr (by omega))]; done) | (rw [if_neg (by omega)]; done)
      · refine x_aload_0 dX0_most_28 ?_
        refine x_iload_3 dX0_most_29 ?_
        refine x_callV1 dX0_most_30 rfl okX0_overAll q1387 q1389 qs41 (by first | assumption | (exact MkL.k0 (by assumption))) am_k0 rfl (C_X0_overAll hC hT hI ⟨g0, by omega⟩ (x_k1 ?_))
        refine x_aload_0 dX0_most_33 ?_
        refine x_iload_2 dX0_most_34 ?_
        refine x_callV1 dX0_most_35 rfl okX0_overAll q1387 q1389 qs41 (by first | assumption | (exact MkL.k0 (by assumption))) am_k0 rfl (C_X0_overAll hC hT hI ⟨by omega, by omega⟩ (x_k1 ?_))
        refine x_icmp_le (tgt := 43) dX0_most_38 rfl (by have := boa i ⟨g0, by omega⟩; have := boa (bestI T S i.toNat) ⟨by omega, by omega⟩; omega) (by have := boa i ⟨g0, by omega⟩; have := boa (bestI T S i.toNat) ⟨by omega, by omega⟩; omega) (fun c38 => ?_) (fun c38 => ?_)
        · refine x_iinc3 dX0_most_43 rfl ?_
          refine x_goto (tgt := 16) dX0_most_46 rfl ?_
          refine nxt _ (by omega) ?_
          rw [bestI_s g0]
          first | (rw [if_pos (Or.inl (by omega))]; done) | (rw [if_pos (Or.inr (by omega))]; done) | (rw [if_neg (by omega)]; done)
        · refine x_iload_3 dX0_most_41 ?_
          refine x_istore_2 dX0_most_42 rfl ?_
          refine x_iinc3 dX0_most_43 rfl ?_
          refine x_goto (tgt := 16) dX0_most_46 rfl ?_
          refine nxt _ (by omega) ?_
          rw [bestI_s g0]
          first | (rw [if_pos (Or.inl (by omega))]; done) | (rw [if_pos (Or.inr (by omega))]; done) | (rw [if_neg (by omega)]; done)
  · refine x_iconst dX0_most_9 ?_
    refine x_iret dX0_most_10 rfl ?_
    refine x_q1 ?_ k
    unfold mostV
    rw [if_pos (by split at c6 <;> omega)]
set_option maxHeartbeats 4000000 in
theorem C_X13_most {w : Int} (hC : TwT L h o s T S) (hT : TxtI T) (hI : RowI T S b q) (hw : rg32 w) (k : ∀ h', FrW h h' o → Q (.inl [aI (mostV T S w)]) L h') : am_C G mX13_most (d + 12) [aR o, aI w] L h Q := by
  have hM := hC.1
  have hL := hM.1
  have hs := hM.2.1
  have hlv := hM.2.2.1
  have hmen := hM.2.2.2.1
  have hM7 := hT.1
  refine x_start okX13_most rfl rfl rfl rfl ?_
  refine x_iload_1 dX13_most_0 ?_
  refine x_iconst dX13_most_1 ?_
  refine x_iconst dX13_most_2 ?_
  refine x_callS3 dX13_most_3 rfl okX13_in q1931 q1932 rfl (C_X13_in hw ⟨by decide, by decide⟩ ⟨by decide, by decide⟩ (x_k1 ?_))
  refine x_if_ne (tgt := 11) dX13_most_6 rfl (by split <;> omega) (fun c6 => ?_) (fun c6 => ?_)
  · refine x_aload_0 dX13_most_11 ?_
    refine x_getR dX13_most_12 fl1598_13 rfl (by first | (exact MdL.k0 (by assumption)) | (assumption)) (by first | (exact MdL.v_men (by assumption)) | (assumption)) ?_
    refine x_aload_0 dX13_most_15 ?_
    refine x_getI_ dX13_most_16 fl1592_13 (by first | (exact MdL.k0 (by assumption)) | (assumption)) (fun r16 => ?_)
    rw [hlv] at r16 ⊢
    refine x_iald_ dX13_most_19 (by first | (exact MdL.k_men (by assumption)) | (assumption)) (by first | (exact MdL.x_men (by assumption) (by omega) (by omega)) | (omega)) (fun r19 => ?_)
    rw [hmen] at r19 ⊢
    refine x_if_ne (tgt := 26) dX13_most_20 rfl (by omega) (fun c20 => ?_) (fun c20 => ?_)
    · refine x_aload_0 dX13_most_26 ?_
      refine x_callV0 dX13_most_27 rfl okX13_copies q1934 q1936 qs81 (by first | assumption | (exact MdL.k0 (by assumption))) am_k13 rfl (C_X13_copiesR hL hC.2 hI hT (fun h1 e1 f1 e2 e3 => (x_k0 ?_)))
      refine x_iconst dX13_most_30 ?_
      refine x_istore_2 dX13_most_31 rfl ?_
      refine x_iconst dX13_most_32 ?_
      refine x_istore_3 dX13_most_33 rfl ?_
      have hw1 : 0 ≤ w ∧ w ≤ 1 := by split at c6 <;> omega
      have hM1 := hM.fr f1
      have hlv1 := hM1.2.2.1
      have hmen1 := hM1.2.2.2.1
      have b1 : bestI T S (1 : Int).toNat = 0 := by
        rw [show (1 : Int) = 0 + 1 by rfl, bestI_s (by omega), if_pos (show bestI T S (Int.toNat 0) < 0 ∨ _ from Or.inl (by show (-2 : Int) < 0; decide))]
      rw [← b1]
      refine x_up0 (tM T) (fun i => 1 ≤ i → i ≤ tM T → am_X G mX13_most (d + 12) 34 [aR o, aI w, aI (bestI T S i.toNat), aI i] [] L h1 Q) (fun i ih g0 g1 => ?_) 1 (by omega) (by omega)
      have hb := bestI_ok T S i.toNat
      have nxt : ∀ v, i < tM T → v = bestI T S (i + 1).toNat → am_X G mX13_most (d + 12) 34 [aR o, aI w, aI v, aI (i + 1)] [] L h1 Q := fun v z e => by rw [e]; exact ih z (by omega) (by omega)
      have boa : ∀ m, 0 ≤ m ∧ m < tM T → 0 ≤ oaR T S m ∧ oaR T S m ≤ 25200 := fun m z => oa_bd hI hT ⟨z.1, by omega⟩ ⟨hM7.1, by omega⟩
      refine x_iload_3 dX13_most_34 ?_
      refine x_aload_0 dX13_most_35 ?_
      refine x_getR dX13_most_36 fl1598_13 rfl (by first | (exact MdL.k0 (by assumption)) | (assumption)) (by first | (exact MdL.v_men (by assumption)) | (assumption)) ?_
      refine x_aload_0 dX13_most_39 ?_
      refine x_getI_ dX13_most_40 fl1592_13 (by first | (exact MdL.k0 (by assumption)) | (assumption)) (fun r40 => ?_)
      rw [hlv1] at r40 ⊢
      refine x_iald_ dX13_most_43 (by first | (exact MdL.k_men (by assumption)) | (assumption)) (by first | (exact MdL.x_men (by assumption) (by omega) (by omega)) | (omega)) (fun r43 => ?_)
      rw [hmen1] at r43 ⊢
      refine x_icmp_ge (tgt := 68) dX13_most_44 rfl (by omega) (by omega) (fun c44 => ?_) (fun c44 => ?_)
      · have ei : i = tM T := by omega
        subst ei
        refine x_iload_1 dX13_most_68 ?_
        refine x_if_ne (tgt := 76) dX13_most_69 rfl (by omega) (fun c69 => ?_) (fun c69 => ?_)
        · refine x_aload_0 dX13_most_76 ?_
          refine x_iload_2 dX13_most_77 ?_
          refine x_callV1 dX13_most_78 rfl okX13_overAll q2117 q2119 qs102 (by first | assumption | (exact MdL.k0 (by assumption))) am_k13 rfl (C_X13_overAll hM1 e2 hT hI ⟨by omega, by omega⟩ (x_k1 ?_))
          refine x_iret dX13_most_81 rfl ?_
          refine x_q1 ?_ (k h1 f1)
          unfold mostV
          rw [if_neg (by omega), if_neg (by omega)]
          first | (rw [if_pos (by omega)]; done) | (rw [if_neg (by omega)]; done)
        · refine x_iload_2 dX13_most_72 ?_
          refine x_goto (tgt := 81) dX13_most_73 rfl ?_
          refine x_iret dX13_most_81 rfl ?_
          refine x_q1 ?_ (k h1 f1)
          unfold mostV
          rw [if_neg (by omega), if_neg (by omega)]
          first | (rw [if_pos (by omega)]; done) | (rw [if_neg (by omega)]; done)
      · refine x_aload_0 dX13_most_47 ?_
        refine x_iload_3 dX13_most_48 ?_
        refine x_callV1 dX13_most_49 rfl okX13_overAll q2117 q2119 qs102 (by first | assumption | (exact MdL.k0 (by assumption))) am_k13 rfl (C_X13_overAll hM1 e2 hT hI ⟨by omega, by omega⟩ (x_k1 ?_))
        refine x_aload_0 dX13_most_52 ?_
        refine x_iload_2 dX13_most_53 ?_
        refine x_callV1 dX13_most_54 rfl okX13_overAll q2117 q2119 qs102 (by first | assumption | (exact MdL.k0 (by assumption))) am_k13 rfl (C_X13_overAll hM1 e2 hT hI ⟨by omega, by omega⟩ (x_k1 ?_))
        refine x_icmp_le (tgt := 62) dX13_most_57 rfl (by have := boa i ⟨by omega, by omega⟩; have := boa (bestI T S i.toNat) ⟨by omega, by omega⟩; omega) (by have := boa i ⟨by omega, by omega⟩; have := boa (bestI T S i.toNat) ⟨by omega, by omega⟩; omega) (fun c57 => ?_) (fun c57 => ?_)
        · refine x_iinc3 dX13_most_62 rfl ?_
          refine x_goto (tgt := 34) dX13_most_65 rfl ?_
          refine nxt _ (by omega) ?_
          rw [bestI_s (by omega)]
          first | (rw [if_pos (Or.inr (by omega))]; done) | (rw [if_neg (by omega)]; done)
        · refine x_iload_3 dX13_most_60 ?_
          refine x_istore_2 dX13_most_61 rfl ?_
          refine x_iinc3 dX13_most_62 rfl ?_
          refine x_goto (tgt := 34) dX13_most_65 rfl ?_
          refine nxt _ (by omega) ?_
          rw [bestI_s (by omega)]
          first | (rw [if_pos (Or.inr (by omega))]; done) | (rw [if_neg (by omega)]; done)
    · refine x_bipush dX13_most_23 rfl ?_
      refine x_iret dX13_most_25 rfl ?_
      refine x_q1 ?_ (k h (FrW.rf h o))
      unfold mostV
      rw [if_neg (by split at c6 <;> omega), if_pos (by omega)]
  · refine x_iconst dX13_most_9 ?_
    refine x_iret dX13_most_10 rfl ?_
    refine x_q1 ?_ (k h (FrW.rf h o))
    unfold mostV
    rw [if_pos (by split at c6 <;> omega)]
end MOST
