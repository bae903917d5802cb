/-! OPERATIONS: unfair, meet -/
set_option maxRecDepth 100000
section UNF
variable {G : am_G} {d : Nat} {L : am_L} {h h' : am_H} {Q : am_O → am_L → am_H → Prop} {x o s t : Int} {T : Txt} {S : Row} {b q : Int}
def mxI (f : Int → Int) : Nat → Int
  | 0 => f 0
  | n + 1 => if mxI f n < f n then f n else mxI f n
def mnI (f : Int → Int) : Nat → Int
  | 0 => f 0
  | n + 1 => if f n < mnI f n then f n else mnI f n
theorem mxI_s {f : Int → Int} {i : Int} (h : 0 ≤ i) : mxI f (i + 1).toNat = if mxI f i.toNat < f i then f i else mxI f i.toNat := by
  rw [show (i + 1).toNat = i.toNat + 1 by omega]
  show (if _ < f (i.toNat : Nat) then f (i.toNat : Nat) else _) = _
  rw [show ((i.toNat : Nat) : Int) = i by omega]
theorem mnI_s {f : Int → Int} {i : Int} (h : 0 ≤ i) : mnI f (i + 1).toNat = if f i < mnI f i.toNat then f i else mnI f i.toNat := by
  rw [show (i + 1).toNat = i.toNat + 1 by omega]
  show (if f (i.toNat : Nat) < _ then f (i.toNat : Nat) else _) = _
  rw [show ((i.toNat : Nat) : Int) = i by omega]
theorem mx1 (f : Int → Int) : mxI f (1 : Int).toNat = f 0 := by
  show (if f 0 < f 0 then f 0 else f 0) = f 0
  split <;> rfl
theorem mn1 (f : Int → Int) : mnI f (1 : Int).toNat = f 0 := by
  show (if f 0 < f 0 then f 0 else f 0) = f 0
  split <;> rfl
theorem mxn_bd {f : Int → Int} {N B : Int} (hN : 1 ≤ N) (h : ∀ i, 0 ≤ i → i < N → 0 ≤ f i ∧ f i ≤ B) : ∀ n : Nat, (n : Int) ≤ N → (0 ≤ mxI f n ∧ mxI f n ≤ B) ∧ (0 ≤ mnI f n ∧ mnI f n ≤ B)
  | 0, _ => ⟨h 0 (by omega) (by omega), h 0 (by omega) (by omega)⟩
  | n + 1, hn => by
    obtain ⟨a1, a2⟩ := mxn_bd hN h n (by omega)
    have := h n (by omega) (by omega)
    unfold mxI mnI
    constructor <;> split <;> omega
def unfairV (T : Txt) (S : Row) : Int := if tM T = 0 then 0 else mxI (oaR T S) (tM T).toNat - mnI (oaR T S) (tM T).toNat
set_option maxHeartbeats 4000000 in
theorem C_X0_unfair (hC : CoT L h x t T S) (hT : TxtI T) (hI : RowI T S b q) (k : Q (.inl [aI (unfairV T S)]) L h) : am_C G mX0_unfair (d + 430) [aR x] L h Q := by
  have hK := hC.mk
  have hM := hT.1
  have boa : ∀ m, 0 ≤ m → m < tM T → 0 ≤ oaR T S m ∧ oaR T S m ≤ 25200 := fun m z0 z1 => oa_bd hI hT ⟨z0, by omega⟩ ⟨hM.1, by omega⟩
  refine x_start okX0_unfair rfl rfl rfl rfl ?_
  refine x_aload_0 dX0_unfair_0 ?_
  refine x_callV0 dX0_unfair_1 rfl okX0_men q1196 q1198 qs33 (by first | assumption | (exact MkL.k0 (by assumption))) am_k0 rfl (C_X0_men hC (x_k1 ?_))
  refine x_if_ne (tgt := 9) dX0_unfair_4 rfl (by omega) (fun c4 => ?_) (fun c4 => ?_)
  · refine x_aload_0 dX0_unfair_9 ?_
    refine x_iconst dX0_unfair_10 ?_
    refine x_callV1 dX0_unfair_11 rfl okX0_overAll q1387 q1389 qs41 (by first | assumption | (exact MkL.k0 (by assumption))) am_k0 rfl (C_X0_overAll hC hT hI ⟨by omega, by omega⟩ (x_k1 ?_))
    refine x_istore_1 dX0_unfair_14 rfl ?_
    refine x_aload_0 dX0_unfair_15 ?_
    refine x_iconst dX0_unfair_16 ?_
    refine x_callV1 dX0_unfair_17 rfl okX0_overAll q1387 q1389 qs41 (by first | assumption | (exact MkL.k0 (by assumption))) am_k0 rfl (C_X0_overAll hC hT hI ⟨by omega, by omega⟩ (x_k1 ?_))
    refine x_istore_2 dX0_unfair_20 rfl ?_
    refine x_iconst dX0_unfair_21 ?_
    refine x_istore_3 dX0_unfair_22 rfl ?_
    have e1 := mx1 (oaR T S)
    have e2 := mn1 (oaR T S)
    suffices H : ∀ i, 1 ≤ i → i ≤ tM T → am_X G mX0_unfair (d + 430) 23 [aR x, aI (mxI (oaR T S) i.toNat), aI (mnI (oaR T S) i.toNat), aI i] [] L h Q by
      have := H 1 (by omega) (by omega)
      rw [e1, e2] at this
      exact this
    refine x_up0 (tM T) (fun i => 1 ≤ i → i ≤ tM T → am_X G mX0_unfair (d + 430) 23 [aR x, aI (mxI (oaR T S) i.toNat), aI (mnI (oaR T S) i.toNat), aI i] [] L h Q) (fun i ih g0 g1 => ?_)
    obtain ⟨b1, b2⟩ := mxn_bd (f := oaR T S) (N := tM T) (by omega) boa i.toNat (by omega)
    have nxt : ∀ u v, i < tM T → u = mxI (oaR T S) (i + 1).toNat → v = mnI (oaR T S) (i + 1).toNat → am_X G mX0_unfair (d + 430) 23 [aR x, aI u, aI v, aI (i + 1)] [] L h Q := fun u v z e e' => by rw [e, e']; exact ih z (by omega) (by omega)
    refine x_iload_3 dX0_unfair_23 ?_
    refine x_aload_0 dX0_unfair_24 ?_
    refine x_callV0 dX0_unfair_25 rfl okX0_men q1196 q1198 qs33 (by first | assumption | (exact MkL.k0 (by assumption))) am_k0 rfl (C_X0_men hC (x_k1 ?_))
    refine x_icmp_ge (tgt := 57) dX0_unfair_28 rfl (by omega) (by omega) (fun c28 => ?_) (fun c28 => ?_)
    · refine x_iload_1 dX0_unfair_57 ?_
      refine x_iload_2 dX0_unfair_58 ?_
      refine x_isub dX0_unfair_59 ?_
      refine x_iret dX0_unfair_60 rfl ?_
      rw [show i = tM T by omega]
      refine x_q1 ?_ k
      unfold unfairV
      rw [if_neg (by omega)]
    · have bi := boa i (by omega) (by omega)
      refine x_iload_1 dX0_unfair_31 ?_
      refine x_aload_0 dX0_unfair_32 ?_
      refine x_iload_3 dX0_unfair_33 ?_
      refine x_callV1 dX0_unfair_34 rfl okX0_overAll q1387 q1389 qs41 (by first | assumption | (exact MkL.k0 (by assumption))) am_k0 rfl (C_X0_overAll hC hT hI ⟨by omega, by omega⟩ (x_k1 ?_))
      refine x_mmax dX0_unfair_37 q1498 q566 q135 q567 rfl (by omega) (by omega) ?_
      refine x_istore_1 dX0_unfair_40 rfl ?_
      refine x_iload_2 dX0_unfair_41 ?_
      refine x_aload_0 dX0_unfair_42 ?_
      refine x_iload_3 dX0_unfair_43 ?_
      refine x_callV1 dX0_unfair_44 rfl okX0_overAll q1387 q1389 qs41 (by first | assumption | (exact MkL.k0 (by assumption))) am_k0 rfl (C_X0_overAll hC hT hI ⟨by omega, by omega⟩ (x_k1 ?_))
      refine x_mmin dX0_unfair_47 q1257 q569 q135 q570 rfl (by omega) (by omega) ?_
      refine x_istore_2 dX0_unfair_50 rfl ?_
      refine x_iinc3 dX0_unfair_51 rfl ?_
      refine x_goto (tgt := 23) dX0_unfair_54 rfl ?_
      refine nxt _ _ (by omega) ?_ ?_
      · rw [mxI_s (by omega)]
        all_goals (repeat' split) <;> omega
      · rw [mnI_s (by omega)]
        all_goals (repeat' split) <;> omega
  · refine x_iconst dX0_unfair_7 ?_
    refine x_iret dX0_unfair_8 rfl ?_
    refine x_q1 ?_ k
    unfold unfairV
    rw [if_pos (by omega)]
set_option maxHeartbeats 4000000 in
theorem C_X13_unfair (hC : TwT L h o s T S) (hT : TxtI T) (hI : RowI T S b q) (k : ∀ h', FrW h h' o → Q (.inl [aI (unfairV T S)]) L h') : am_C G mX13_unfair (d + 12) [aR o] L h Q := by
  have hMd := hC.1
  have hL := hMd.1
  have hs := hMd.2.1
  have hlv := hMd.2.2.1
  have hmen := hMd.2.2.2.1
  have hM := hT.1
  have boa : ∀ m, 0 ≤ m → m < tM T → 0 ≤ oaR T S m ∧ oaR T S m ≤ 25200 := fun m z0 z1 => oa_bd hI hT ⟨z0, by omega⟩ ⟨hM.1, by omega⟩
  refine x_start okX13_unfair rfl rfl rfl rfl ?_
  refine x_aload_0 dX13_unfair_0 ?_
  refine x_getR dX13_unfair_1 fl1598_13 rfl (by first | (exact MdL.k0 (by assumption)) | (assumption)) (by first | (exact MdL.v_men (by assumption)) | (assumption)) ?_
  refine x_aload_0 dX13_unfair_4 ?_
  refine x_getI_ dX13_unfair_5 fl1592_13 (by first | (exact MdL.k0 (by assumption)) | (assumption)) (fun r5 => ?_)
  rw [hlv] at r5 ⊢
  refine x_iald_ dX13_unfair_8 (by first | (exact MdL.k_men (by assumption)) | (assumption)) (by first | (exact MdL.x_men (by assumption) (by omega) (by omega)) | (omega)) (fun r8 => ?_)
  rw [hmen] at r8 ⊢
  refine x_if_ne (tgt := 14) dX13_unfair_9 rfl (by omega) (fun c9 => ?_) (fun c9 => ?_)
  · refine x_aload_0 dX13_unfair_14 ?_
    refine x_callV0 dX13_unfair_15 rfl okX13_copies q1934 q1936 qs81 (by first | assumption | (exact MdL.k0 (by assumption))) am_k13 rfl (C_X13_copiesR hL hC.2 hI hT (fun h1 e1 f1 e2 e3 => (x_k0 ?_)))
    have hM1 := hMd.fr f1
    have hlv1 := hM1.2.2.1
    have hmen1 := hM1.2.2.2.1
    refine x_aload_0 dX13_unfair_18 ?_
    refine x_iconst dX13_unfair_19 ?_
    refine x_callV1 dX13_unfair_20 rfl okX13_overAll q2117 q2119 qs102 (by first | assumption | (exact MdL.k0 (by assumption))) am_k13 rfl (C_X13_overAll hM1 e2 hT hI ⟨by omega, by omega⟩ (x_k1 ?_))
    refine x_istore_1 dX13_unfair_23 rfl ?_
    refine x_iload_1 dX13_unfair_24 ?_
    refine x_istore_2 dX13_unfair_25 rfl ?_
    refine x_iconst dX13_unfair_26 ?_
    refine x_istore_3 dX13_unfair_27 rfl ?_
    have e1' := mx1 (oaR T S)
    have e2' := mn1 (oaR T S)
    suffices H : ∀ i, 1 ≤ i → i ≤ tM T → am_X G mX13_unfair (d + 12) 28 [aR o, aI (mnI (oaR T S) i.toNat), aI (mxI (oaR T S) i.toNat), aI i] [] L h1 Q by
      have := H 1 (by omega) (by omega)
      rw [e1', e2'] at this
      exact this
    refine x_up0 (tM T) (fun i => 1 ≤ i → i ≤ tM T → am_X G mX13_unfair (d + 12) 28 [aR o, aI (mnI (oaR T S) i.toNat), aI (mxI (oaR T S) i.toNat), aI i] [] L h1 Q) (fun i ih g0 g1 => ?_)
    obtain ⟨b1, b2⟩ := mxn_bd (f := oaR T S) (N := tM T) (by omega) boa i.toNat (by omega)
    have nxt : ∀ u v, i < tM T → u = mxI (oaR T S) (i + 1).toNat → v = mnI (oaR T S) (i + 1).toNat → am_X G mX13_unfair (d + 12) 28 [aR o, aI v, aI u, aI (i + 1)] [] L h1 Q := fun u v z e e' => by rw [e, e']; exact ih z (by omega) (by omega)
    refine x_iload_3 dX13_unfair_28 ?_
    refine x_aload_0 dX13_unfair_29 ?_
    refine x_getR dX13_unfair_30 fl1598_13 rfl (by first | (exact MdL.k0 (by assumption)) | (assumption)) (by first | (exact MdL.v_men (by assumption)) | (assumption)) ?_
    refine x_aload_0 dX13_unfair_33 ?_
    refine x_getI_ dX13_unfair_34 fl1592_13 (by first | (exact MdL.k0 (by assumption)) | (assumption)) (fun r34 => ?_)
    rw [hlv1] at r34 ⊢
    refine x_iald_ dX13_unfair_37 (by first | (exact MdL.k_men (by assumption)) | (assumption)) (by first | (exact MdL.x_men (by assumption) (by omega) (by omega)) | (omega)) (fun r37 => ?_)
    rw [hmen1] at r37 ⊢
    refine x_icmp_ge (tgt := 77) dX13_unfair_38 rfl (by omega) (by omega) (fun c38 => ?_) (fun c38 => ?_)
    · refine x_iload_2 dX13_unfair_77 ?_
      refine x_iload_1 dX13_unfair_78 ?_
      refine x_isub dX13_unfair_79 ?_
      refine x_iret dX13_unfair_80 rfl ?_
      rw [show i = tM T by omega]
      refine x_q1 ?_ (k h1 f1)
      unfold unfairV
      rw [if_neg (by omega)]
    · have bi := boa i (by omega) (by omega)
      refine x_aload_0 dX13_unfair_41 ?_
      refine x_iload_3 dX13_unfair_42 ?_
      refine x_callV1 dX13_unfair_43 rfl okX13_overAll q2117 q2119 qs102 (by first | assumption | (exact MdL.k0 (by assumption))) am_k13 rfl (C_X13_overAll hM1 e2 hT hI ⟨by omega, by omega⟩ (x_k1 ?_))
      refine x_iload_1 dX13_unfair_46 ?_
      refine x_icmp_ge (tgt := 56) dX13_unfair_47 rfl (by omega) (by omega) (fun c47 => ?_) (fun c47 => ?_)
      · refine x_aload_0 dX13_unfair_56 ?_
        refine x_iload_3 dX13_unfair_57 ?_
        refine x_callV1 dX13_unfair_58 rfl okX13_overAll q2117 q2119 qs102 (by first | assumption | (exact MdL.k0 (by assumption))) am_k13 rfl (C_X13_overAll hM1 e2 hT hI ⟨by omega, by omega⟩ (x_k1 ?_))
        refine x_iload_2 dX13_unfair_61 ?_
        refine x_icmp_le (tgt := 71) dX13_unfair_62 rfl (by omega) (by omega) (fun c62 => ?_) (fun c62 => ?_)
        · refine x_iinc3 dX13_unfair_71 rfl ?_
          refine x_goto (tgt := 28) dX13_unfair_74 rfl ?_
          refine nxt _ _ (by omega) ?_ ?_
          · rw [mxI_s (by omega)]
            (repeat' split) <;> omega
          · rw [mnI_s (by omega)]
            (repeat' split) <;> omega
        · refine x_aload_0 dX13_unfair_65 ?_
          refine x_iload_3 dX13_unfair_66 ?_
          refine x_callV1 dX13_unfair_67 rfl okX13_overAll q2117 q2119 qs102 (by first | assumption | (exact MdL.k0 (by assumption))) am_k13 rfl (C_X13_overAll hM1 e2 hT hI ⟨by omega, by omega⟩ (x_k1 ?_))
          refine x_istore_2 dX13_unfair_70 rfl ?_
          refine x_iinc3 dX13_unfair_71 rfl ?_
          refine x_goto (tgt := 28) dX13_unfair_74 rfl ?_
          refine nxt _ _ (by omega) ?_ ?_
          · rw [mxI_s (by omega)]
            (repeat' split) <;> omega
          · rw [mnI_s (by omega)]
            (repeat' split) <;> omega
      · refine x_aload_0 dX13_unfair_50 ?_
        refine x_iload_3 dX13_unfair_51 ?_
        refine x_callV1 dX13_unfair_52 rfl okX13_overAll q2117 q2119 qs102 (by first | assumption | (exact MdL.k0 (by assumption))) am_k13 rfl (C_X13_overAll hM1 e2 hT hI ⟨by omega, by omega⟩ (x_k1 ?_))
        refine x_istore_1 dX13_unfair_55 rfl ?_
        refine x_aload_0 dX13_unfair_56 ?_
        refine x_iload_3 dX13_unfair_57 ?_
        refine x_callV1 dX13_unfair_58 rfl okX13_overAll q2117 q2119 qs102 (by first | assumption | (exact MdL.k0 (by assumption))) am_k13 rfl (C_X13_overAll hM1 e2 hT hI ⟨by omega, by omega⟩ (x_k1 ?_))
        refine x_iload_2 dX13_unfair_61 ?_
        refine x_icmp_le (tgt := 71) dX13_unfair_62 rfl (by omega) (by omega) (fun c62 => ?_) (fun c62 => ?_)
        · refine x_iinc3 dX13_unfair_71 rfl ?_
          refine x_goto (tgt := 28) dX13_unfair_74 rfl ?_
          refine nxt _ _ (by omega) ?_ ?_
          · rw [mxI_s (by omega)]
            (repeat' split) <;> omega
          · rw [mnI_s (by omega)]
            (repeat' split) <;> omega
        · refine x_aload_0 dX13_unfair_65 ?_
          refine x_iload_3 dX13_unfair_66 ?_
          refine x_callV1 dX13_unfair_67 rfl okX13_overAll q2117 q2119 qs102 (by first | assumption | (exact MdL.k0 (by assumption))) am_k13 rfl (C_X13_overAll hM1 e2 hT hI ⟨by omega, by omega⟩ (x_k1 ?_))
          refine x_istore_2 dX13_unfair_70 rfl ?_
          refine x_iinc3 dX13_unfair_71 rfl ?_
          refine x_goto (tgt := 28) dX13_unfair_74 rfl ?_
          refine nxt _ _ (by omega) ?_ ?_
          · rw [mxI_s (by omega)]
            (repeat' split) <;> omega
          · rw [mnI_s (by omega)]
            (repeat' split) <;> omega
  · refine x_iconst dX13_unfair_12 ?_
    refine x_iret dX13_unfair_13 rfl ?_
    refine x_q1 ?_ (k h (FrW.rf h o))
    unfold unfairV
    rw [if_pos (by omega)]
end UNF
