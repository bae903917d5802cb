/-! OPERATIONS: crowd -/
set_option maxRecDepth 100000
section CROWD
variable {G : am_G} {d : Nat} {L : am_L} {h h' : am_H} {Q : am_O → am_L → am_H → Prop} {x o s t : Int} {T : Txt} {S : Row} {b q : Int}
/-- comes a man's thread to a corner, by its first n pieces -/
def cmB (T : Txt) (S : Row) (m u v : Int) : Nat → Bool
  | 0 => decide (0 < rN S m ∧ tDX T m = u ∧ tDY T m = v)
  | n + 1 => cmB T S m u v n || decide (posX T S m (n + 1) = u ∧ posY T S m (n + 1) = v)
theorem cmB_s {m u v i : Int} (h : 0 ≤ i) : cmB T S m u v (i + 1).toNat = (cmB T S m u v i.toNat || decide (posX T S m (i + 1) = u ∧ posY T S m (i + 1) = v)) := by
  rw [show (i + 1).toNat = i.toNat + 1 by omega]
  show (_ || decide (posX T S m ((i.toNat : Nat) + 1) = u ∧ posY T S m ((i.toNat : Nat) + 1) = v)) = _
  rw [show ((i.toNat : Nat) : Int) = i by omega]
theorem cmB_up {m u v : Int} (n k : Nat) (h : cmB T S m u v n = true) : cmB T S m u v (n + k) = true := by
  induction k with
  | zero => exact h
  | succ k ih =>
    show (cmB T S m u v (n + k) || _) = true
    rw [ih]
    rfl
def comI (T : Txt) (S : Row) (m u v : Int) : Int := if cmB T S m u v (rN S m).toNat = true then 1 else 0
set_option maxHeartbeats 4000000 in
theorem C_X0_comesTo {m u v : Int} (hC : CoT L h x t T S) (hT : TxtI T) (hI : RowI T S b q) (hm : 0 ≤ m ∧ m < tM T) (hu : 0 ≤ u ∧ u ≤ 11) (hv : 0 ≤ v ∧ v ≤ 11) (k : Q (.inl [aI (comI T S m u v)]) L h) : am_C G mX0_comesTo (d + 5) [aR x, aI m, aI u, aI v] L h Q := by
  have hK := hC.mk
  have htx := hC.tx
  have hht := hC.ht
  have hcl := hC.cl
  have hM := hT.1
  have hma := htx.man hm.1 hm.2
  have bn := hI.n60 hT m hm.1 (by omega)
  obtain ⟨p0x, p0y⟩ := pos_0 T S m
  have p0 := pos_bd hT hI hm (i := 0) ⟨by omega, bn.1⟩
  have en := hC.rc.2.1 m hm.1 (by omega)
  have ek := hC.rc.2.2.2.1 m
  suffices H : ∀ (w : Int), w = (if cmB T S m u v 0 = true then 1 else 0) → am_X G mX0_comesTo (d + 5) 67 [aR x, aI m, aI u, aI v, aI (tDX T m), aI (tDY T m), aU, aU] [aI w] L h Q by
    refine x_start okX0_comesTo rfl rfl rfl rfl ?_
    refine x_aload_0 dX0_comesTo_0 ?_
    refine x_getW dX0_comesTo_1 fl574_0 rfl (by first | (exact MkL.k0 (by assumption)) | (assumption)) (by assumption) ?_
    refine x_getR dX0_comesTo_4 fl352_4 rfl (by first | (exact TxL.k0 (by assumption)) | (assumption)) (by first | (rfl) | (assumption)) ?_
    refine x_iload_1 dX0_comesTo_7 ?_
    refine x_callV1 dX0_comesTo_8 rfl okJ5_get q1204 q530 q531 (by first | assumption | (exact TxL.kl (by assumption))) am_k20 rfl (C_J5_get htx.ls hm (x_k1 ?_))
    refine x_cast dX0_comesTo_11 q1205 (by first | assumption | (exact ManL.k0 (by assumption))) am_k14 ?_
    refine x_getKI dX0_comesTo_14 fl990_14 (by first | (exact ManL.k0 (by assumption)) | (assumption)) (by first | (exact ManL.x (by assumption)) | (assumption)) (fun r14 => ?_)
    refine x_istore4 dX0_comesTo_17 rfl ?_
    refine x_aload_0 dX0_comesTo_19 ?_
    refine x_getW dX0_comesTo_20 fl574_0 rfl (by first | (exact MkL.k0 (by assumption)) | (assumption)) (by assumption) ?_
    refine x_getR dX0_comesTo_23 fl352_4 rfl (by first | (exact TxL.k0 (by assumption)) | (assumption)) (by first | (rfl) | (assumption)) ?_
    refine x_iload_1 dX0_comesTo_26 ?_
    refine x_callV1 dX0_comesTo_27 rfl okJ5_get q1204 q530 q531 (by first | assumption | (exact TxL.kl (by assumption))) am_k20 rfl (C_J5_get htx.ls hm (x_k1 ?_))
    refine x_cast dX0_comesTo_30 q1205 (by first | assumption | (exact ManL.k0 (by assumption))) am_k14 ?_
    refine x_getKI dX0_comesTo_33 fl993_14 (by first | (exact ManL.k0 (by assumption)) | (assumption)) (by first | (exact ManL.y (by assumption)) | (assumption)) (fun r33 => ?_)
    refine x_istore5 dX0_comesTo_36 rfl ?_
    refine x_aload_0 dX0_comesTo_38 ?_
    refine x_getR dX0_comesTo_39 fl578_0 rfl (by first | (exact MkL.k0 (by assumption)) | (assumption)) (by first | (exact MkL.v_cloth (by assumption)) | (assumption)) ?_
    refine x_getR dX0_comesTo_42 fl438_5 rfl (by first | (exact ClL.k0 (by assumption)) | (assumption)) (by first | (exact ClL.f2 (by assumption)) | (assumption)) ?_
    refine x_iload_1 dX0_comesTo_45 ?_
    refine x_iald_ dX0_comesTo_46 (by first | (exact ClL.k3 (by assumption)) | (assumption)) (by first | (exact ClL.r3 (by assumption) (by omega) (by omega)) | (omega)) (fun r46 => ?_)
    simp (disch := omega) only [en] at r46 ⊢
    refine x_if_le (tgt := 66) dX0_comesTo_47 rfl (by omega) (fun c47 => ?_) (fun c47 => ?_)
    · refine x_iconst dX0_comesTo_66 ?_
      refine H _ ?_
      show _ = (if decide (0 < rN S m ∧ tDX T m = u ∧ tDY T m = v) = true then 1 else 0)
      first
      | (rw [if_pos (decide_eq_true ⟨by omega, by omega, by omega⟩)]; done)
      | (rw [if_neg (fun z => by have := of_decide_eq_true z; omega)]; done)
    · refine x_iload4 dX0_comesTo_50 ?_
      refine x_iload_2 dX0_comesTo_52 ?_
      refine x_icmp_ne (tgt := 66) dX0_comesTo_53 rfl (by omega) (by omega) (fun c53 => ?_) (fun c53 => ?_)
      · refine x_iconst dX0_comesTo_66 ?_
        refine H _ ?_
        show _ = (if decide (0 < rN S m ∧ tDX T m = u ∧ tDY T m = v) = true then 1 else 0)
        first
        | (rw [if_pos (decide_eq_true ⟨by omega, by omega, by omega⟩)]; done)
        | (rw [if_neg (fun z => by have := of_decide_eq_true z; omega)]; done)
      · refine x_iload5 dX0_comesTo_56 ?_
        refine x_iload_3 dX0_comesTo_58 ?_
        refine x_icmp_ne (tgt := 66) dX0_comesTo_59 rfl (by omega) (by omega) (fun c59 => ?_) (fun c59 => ?_)
        · refine x_iconst dX0_comesTo_66 ?_
          refine H _ ?_
          show _ = (if decide (0 < rN S m ∧ tDX T m = u ∧ tDY T m = v) = true then 1 else 0)
          first
          | (rw [if_pos (decide_eq_true ⟨by omega, by omega, by omega⟩)]; done)
          | (rw [if_neg (fun z => by have := of_decide_eq_true z; omega)]; done)
        · refine x_iconst dX0_comesTo_62 ?_
          refine x_goto (tgt := 67) dX0_comesTo_63 rfl ?_
          refine H _ ?_
          show _ = (if decide (0 < rN S m ∧ tDX T m = u ∧ tDY T m = v) = true then 1 else 0)
          first
          | (rw [if_pos (decide_eq_true ⟨by omega, by omega, by omega⟩)]; done)
          | (rw [if_neg (fun z => by have := of_decide_eq_true z; omega)]; done)
  intro w hw
  rw [hw]
  clear hw w
  refine x_istore6 dX0_comesTo_67 rfl ?_
  refine x_iconst dX0_comesTo_69 ?_
  refine x_istore7 dX0_comesTo_70 rfl ?_
  rw [← p0x, ← p0y]
  refine x_up0 (rN S m) (fun i => 0 ≤ i → i ≤ rN S m → am_X G mX0_comesTo (d + 5) 72 [aR x, aI m, aI u, aI v, aI (posX T S m i), aI (posY T S m i), aI (if cmB T S m u v i.toNat = true then 1 else 0), aI i] [] L h Q) (fun i ih g0 g1 => ?_) 0 (by omega) bn.1
  have pbd := pos_bd hT hI hm ⟨g0, g1⟩
  refine x_iload7 dX0_comesTo_72 ?_
  refine x_aload_0 dX0_comesTo_74 ?_
  refine x_getR dX0_comesTo_75 fl578_0 rfl (by first | (exact MkL.k0 (by assumption)) | (assumption)) (by first | (exact MkL.v_cloth (by assumption)) | (assumption)) ?_
  refine x_getR dX0_comesTo_78 fl438_5 rfl (by first | (exact ClL.k0 (by assumption)) | (assumption)) (by first | (exact ClL.f2 (by assumption)) | (assumption)) ?_
  refine x_iload_1 dX0_comesTo_81 ?_
  refine x_iald_ dX0_comesTo_82 (by first | (exact ClL.k3 (by assumption)) | (assumption)) (by first | (exact ClL.r3 (by assumption) (by omega) (by omega)) | (omega)) (fun r82 => ?_)
  simp (disch := omega) only [en] at r82 ⊢
  refine x_icmp_ge (tgt := 156) dX0_comesTo_83 rfl (by omega) (by omega) (fun c83 => ?_) (fun c83 => ?_)
  · refine x_iload6 dX0_comesTo_156 ?_
    refine x_zret dX0_comesTo_158 rfl (by omega) ?_
    rw [show i = rN S m by omega]
    exact k
  · have ew := (ek i hm.1 (by omega) g0 (by omega)).1
    have bw := (hI.2.2.1 m i hm.1 hm.2 g0 (by omega)).1
    have pb1 := pos_bd hT hI hm (i := i + 1) ⟨by omega, by omega⟩
    have ex1 := posX_s (T := T) (S := S) (m := m) g0
    have ey1 := posY_s (T := T) (S := S) (m := m) g0
    have nxt : ∀ w, w = (if cmB T S m u v (i + 1).toNat = true then 1 else 0) → am_X G mX0_comesTo (d + 5) 148 [aR x, aI m, aI u, aI v, aI (posX T S m i + dX (rW S m i)), aI (posY T S m i + dY (rW S m i)), aI (if cmB T S m u v i.toNat = true then 1 else 0), aI i] [aI w] L h Q := fun w e => by
      rw [e]
      refine x_istore6 dX0_comesTo_148 rfl ?_
      refine x_iinc7 dX0_comesTo_150 rfl ?_
      refine x_goto (tgt := 72) dX0_comesTo_153 rfl ?_
      have := ih (by omega) (by omega) (by omega)
      rw [ex1, ey1] at this
      exact this
    refine x_iload4 dX0_comesTo_86 ?_
    refine x_aload_0 dX0_comesTo_88 ?_
    refine x_getR dX0_comesTo_89 fl578_0 rfl (by first | (exact MkL.k0 (by assumption)) | (assumption)) (by first | (exact MkL.v_cloth (by assumption)) | (assumption)) ?_
    refine x_getR dX0_comesTo_92 fl443_5 rfl (by first | (exact ClL.k0 (by assumption)) | (assumption)) (by first | (exact ClL.f4 (by assumption)) | (assumption)) ?_
    refine x_iload_1 dX0_comesTo_95 ?_
    refine x_aald dX0_comesTo_96 (by first | (exact ClL.k5 (by assumption)) | (assumption)) (by decide) (by decide) (by first | (exact ClL.r5 (by assumption) (by omega) (by omega)) | (omega)) (by first | (exact ClL.fw (by assumption) (by omega) (by omega)) | (assumption)) ?_
    refine x_iload7 dX0_comesTo_97 ?_
    refine x_iald_ dX0_comesTo_99 (by first | (exact ClL.kw (by assumption) (by omega) (by omega)) | (assumption)) (by first | (exact ClL.rw (by assumption) (by omega) (by omega) (by omega) (by omega)) | (omega)) (fun r99 => ?_)
    simp (disch := omega) only [ew] at r99 ⊢
    refine x_callS1 dX0_comesTo_100 rfl okX0_byX q1256 q1247 rfl (C_X0_byX ⟨by omega, by omega⟩ (x_k1 ?_))
    refine x_iadd dX0_comesTo_103 ?_
    refine x_istore4 dX0_comesTo_104 rfl ?_
    refine x_iload5 dX0_comesTo_106 ?_
    refine x_aload_0 dX0_comesTo_108 ?_
    refine x_getR dX0_comesTo_109 fl578_0 rfl (by first | (exact MkL.k0 (by assumption)) | (assumption)) (by first | (exact MkL.v_cloth (by assumption)) | (assumption)) ?_
    refine x_getR dX0_comesTo_112 fl443_5 rfl (by first | (exact ClL.k0 (by assumption)) | (assumption)) (by first | (exact ClL.f4 (by assumption)) | (assumption)) ?_
    refine x_iload_1 dX0_comesTo_115 ?_
    refine x_aald dX0_comesTo_116 (by first | (exact ClL.k5 (by assumption)) | (assumption)) (by decide) (by decide) (by first | (exact ClL.r5 (by assumption) (by omega) (by omega)) | (omega)) (by first | (exact ClL.fw (by assumption) (by omega) (by omega)) | (assumption)) ?_
    refine x_iload7 dX0_comesTo_117 ?_
    refine x_iald_ dX0_comesTo_119 (by first | (exact ClL.kw (by assumption) (by omega) (by omega)) | (assumption)) (by first | (exact ClL.rw (by assumption) (by omega) (by omega) (by omega) (by omega)) | (omega)) (fun r119 => ?_)
    simp (disch := omega) only [ew] at r119 ⊢
    refine x_callS1 dX0_comesTo_120 rfl okX0_byY q1258 q1250 rfl (C_X0_byY ⟨by omega, by omega⟩ (x_k1 ?_))
    refine x_iadd dX0_comesTo_123 ?_
    refine x_istore5 dX0_comesTo_124 rfl ?_
    refine x_iload6 dX0_comesTo_126 ?_
    refine x_if_ne (tgt := 143) dX0_comesTo_128 rfl (by split <;> omega) (fun c128 => ?_) (fun c128 => ?_)
    · refine x_iconst dX0_comesTo_143 ?_
      refine x_goto (tgt := 148) dX0_comesTo_144 rfl ?_
      refine nxt _ ?_
      rw [cmB_s g0]
      by_cases e : cmB T S m u v i.toNat = true
      · rw [e, Bool.true_or, if_pos rfl]
        first
        | done
        | rfl
        | (exfalso; rw [if_pos e] at c128; first | done | omega)
      · rw [if_neg e] at c128
        rw [show cmB T S m u v i.toNat = false from by cases z : cmB T S m u v i.toNat; rfl; exact absurd z e, Bool.false_or]
        first
        | (exfalso; omega)
        | (rw [if_pos (decide_eq_true ⟨by omega, by omega⟩)]; done)
        | (rw [if_neg (fun z => by have := of_decide_eq_true z; omega)]; done)
    · refine x_iload4 dX0_comesTo_131 ?_
      refine x_iload_2 dX0_comesTo_133 ?_
      refine x_icmp_ne (tgt := 147) dX0_comesTo_134 rfl (by omega) (by omega) (fun c134 => ?_) (fun c134 => ?_)
      · refine x_iconst dX0_comesTo_147 ?_
        refine nxt _ ?_
        rw [cmB_s g0]
        by_cases e : cmB T S m u v i.toNat = true
        · rw [e, Bool.true_or, if_pos rfl]
          first
          | done
          | rfl
          | (exfalso; rw [if_pos e] at c128; first | done | omega)
        · rw [if_neg e] at c128
          rw [show cmB T S m u v i.toNat = false from by cases z : cmB T S m u v i.toNat; rfl; exact absurd z e, Bool.false_or]
          first
          | (exfalso; omega)
          | (rw [if_pos (decide_eq_true ⟨by omega, by omega⟩)]; done)
          | (rw [if_neg (fun z => by have := of_decide_eq_true z; omega)]; done)
      · refine x_iload5 dX0_comesTo_137 ?_
        refine x_iload_3 dX0_comesTo_139 ?_
        refine x_icmp_ne (tgt := 147) dX0_comesTo_140 rfl (by omega) (by omega) (fun c140 => ?_) (fun c140 => ?_)
        · refine x_iconst dX0_comesTo_147 ?_
          refine nxt _ ?_
          rw [cmB_s g0]
          by_cases e : cmB T S m u v i.toNat = true
          · rw [e, Bool.true_or, if_pos rfl]
            first
            | done
            | rfl
            | (exfalso; rw [if_pos e] at c128; first | done | omega)
          · rw [if_neg e] at c128
            rw [show cmB T S m u v i.toNat = false from by cases z : cmB T S m u v i.toNat; rfl; exact absurd z e, Bool.false_or]
            first
            | (exfalso; omega)
            | (rw [if_pos (decide_eq_true ⟨by omega, by omega⟩)]; done)
            | (rw [if_neg (fun z => by have := of_decide_eq_true z; omega)]; done)
        · refine x_iconst dX0_comesTo_143 ?_
          refine x_goto (tgt := 148) dX0_comesTo_144 rfl ?_
          refine nxt _ ?_
          rw [cmB_s g0]
          by_cases e : cmB T S m u v i.toNat = true
          · rw [e, Bool.true_or, if_pos rfl]
            first
            | done
            | rfl
            | (exfalso; rw [if_pos e] at c128; first | done | omega)
          · rw [if_neg e] at c128
            rw [show cmB T S m u v i.toNat = false from by cases z : cmB T S m u v i.toNat; rfl; exact absurd z e, Bool.false_or]
            first
            | (exfalso; omega)
            | (rw [if_pos (decide_eq_true ⟨by omega, by omega⟩)]; done)
            | (rw [if_neg (fun z => by have := of_decide_eq_true z; omega)]; done)
set_option maxHeartbeats 4000000 in
theorem C_X13_comesTo {m u v : Int} (hM : MdT L h o s T) (hR : RwF (h (o + 38)) (tM T) S) (hT : TxtI T) (hI : RowI T S b q) (hm : 0 ≤ m ∧ m < tM T) (hu : 0 ≤ u ∧ u ≤ 11) (hv : 0 ≤ v ∧ v ≤ 11) (k : Q (.inl [aI (comI T S m u v)]) L h) : am_C G mX13_comesTo (d + 2) [aR o, aI m, aI u, aI v] L h Q := by
  have hL := hM.1
  have hs := hM.2.1
  have hlv := hM.2.2.1
  have h7 := hT.1
  obtain ⟨edx, edy, -⟩ := hM.2.2.2.2.2.2.2.2.1 m hm.1 hm.2
  have en := (hR.1 m hm.1 (by omega)).1
  have bn := hI.n60 hT m hm.1 (by omega)
  obtain ⟨p0x, p0y⟩ := pos_0 T S m
  have p0 := pos_bd hT hI hm (i := 0) ⟨by omega, bn.1⟩
  have kyes : ∀ n : Nat, (n : Int) ≤ rN S m → cmB T S m u v n = true → Q (.inl [aI 1]) L h := fun n hn e => by
    have e2 := cmB_up n ((rN S m).toNat - n) e
    rw [show n + ((rN S m).toNat - n) = (rN S m).toNat by omega] at e2
    have e3 : comI T S m u v = 1 := if_pos e2
    rw [← e3]
    exact k
  refine x_start okX13_comesTo rfl rfl rfl rfl ?_
  refine x_aload_0 dX13_comesTo_0 ?_
  refine x_getR dX13_comesTo_1 fl1599_13 rfl (by first | (exact MdL.k0 (by assumption)) | (assumption)) (by first | (exact MdL.v_doorX (by assumption)) | (assumption)) ?_
  refine x_bipush dX13_comesTo_4 rfl ?_
  refine x_aload_0 dX13_comesTo_6 ?_
  refine x_getI_ dX13_comesTo_7 fl1592_13 (by first | (exact MdL.k0 (by assumption)) | (assumption)) (fun r7 => ?_)
  rw [hlv] at r7 ⊢
  refine x_imul dX13_comesTo_10 ?_
  refine x_iload_1 dX13_comesTo_11 ?_
  refine x_iadd dX13_comesTo_12 ?_
  refine x_iald_ dX13_comesTo_13 (by first | (exact MdL.k_doorX (by assumption)) | (assumption)) (by first | (exact MdL.x_doorX (by assumption) (by omega) (by omega)) | (omega)) (fun r13 => ?_)
  rw [edx] at r13 ⊢
  refine x_istore4 dX13_comesTo_14 rfl ?_
  refine x_aload_0 dX13_comesTo_16 ?_
  refine x_getR dX13_comesTo_17 fl1600_13 rfl (by first | (exact MdL.k0 (by assumption)) | (assumption)) (by first | (exact MdL.v_doorY (by assumption)) | (assumption)) ?_
  refine x_bipush dX13_comesTo_20 rfl ?_
  refine x_aload_0 dX13_comesTo_22 ?_
  refine x_getI_ dX13_comesTo_23 fl1592_13 (by first | (exact MdL.k0 (by assumption)) | (assumption)) (fun r23 => ?_)
  rw [hlv] at r23 ⊢
  refine x_imul dX13_comesTo_26 ?_
  refine x_iload_1 dX13_comesTo_27 ?_
  refine x_iadd dX13_comesTo_28 ?_
  refine x_iald_ dX13_comesTo_29 (by first | (exact MdL.k_doorY (by assumption)) | (assumption)) (by first | (exact MdL.x_doorY (by assumption) (by omega) (by omega)) | (omega)) (fun r29 => ?_)
  rw [edy] at r29 ⊢
  refine x_istore5 dX13_comesTo_30 rfl ?_
  refine x_aload_0 dX13_comesTo_32 ?_
  refine x_getR dX13_comesTo_33 fl1630_13 rfl (by first | (exact MdL.k0 (by assumption)) | (assumption)) (by first | (exact MdL.v_row (by assumption)) | (assumption)) ?_
  refine x_bipush dX13_comesTo_36 rfl ?_
  refine x_iload_1 dX13_comesTo_38 ?_
  refine x_iadd dX13_comesTo_39 ?_
  refine x_iald_ dX13_comesTo_40 (by first | (exact MdL.k_row (by assumption)) | (assumption)) (by first | (exact MdL.x_row (by assumption) (by omega) (by omega)) | (omega)) (fun r40 => ?_)
  simp (disch := omega) only [en] at r40 ⊢
  refine x_if_le (tgt := 58) dX13_comesTo_41 rfl (by omega) (fun c41 => ?_) (fun c41 => ?_)
  · refine x_iconst dX13_comesTo_58 ?_
    refine x_istore6 dX13_comesTo_59 rfl ?_
    have hc0 : ¬ cmB T S m u v (0 : Int).toNat = true := fun z => by
      have := of_decide_eq_true z
      omega
    rw [← p0x, ← p0y]
    refine x_up0 (rN S m) (fun i => 0 ≤ i → i ≤ rN S m → ¬ cmB T S m u v i.toNat = true → am_X G mX13_comesTo (d + 2) 61 [aR o, aI m, aI u, aI v, aI (posX T S m i), aI (posY T S m i), aI i] [] L h Q) (fun i ih g0 g1 g2 => ?_) 0 (by omega) bn.1 hc0
    have pbd := pos_bd hT hI hm ⟨g0, g1⟩
    refine x_iload6 dX13_comesTo_61 ?_
    refine x_aload_0 dX13_comesTo_63 ?_
    refine x_getR dX13_comesTo_64 fl1630_13 rfl (by first | (exact MdL.k0 (by assumption)) | (assumption)) (by first | (exact MdL.v_row (by assumption)) | (assumption)) ?_
    refine x_bipush dX13_comesTo_67 rfl ?_
    refine x_iload_1 dX13_comesTo_69 ?_
    refine x_iadd dX13_comesTo_70 ?_
    refine x_iald_ dX13_comesTo_71 (by first | (exact MdL.k_row (by assumption)) | (assumption)) (by first | (exact MdL.x_row (by assumption) (by omega) (by omega)) | (omega)) (fun r71 => ?_)
    simp (disch := omega) only [en] at r71 ⊢
    refine x_icmp_ge (tgt := 141) dX13_comesTo_72 rfl (by omega) (by omega) (fun c72 => ?_) (fun c72 => ?_)
    · refine x_iconst dX13_comesTo_141 ?_
      refine x_zret dX13_comesTo_142 rfl (by omega) ?_
      rw [show i = rN S m by omega] at g2
      refine x_q1 ?_ k
      unfold comI
      rw [if_neg g2]
    · have ew := (hR.2.2.1 m i hm.1 (by omega) g0 (by omega)).1
      rw [← Int.add_assoc] at ew
      have bw := (hI.2.2.1 m i hm.1 hm.2 g0 (by omega)).1
      have pb1 := pos_bd hT hI hm (i := i + 1) ⟨by omega, by omega⟩
      have ex1 := posX_s (T := T) (S := S) (m := m) g0
      have ey1 := posY_s (T := T) (S := S) (m := m) g0
      refine x_iload4 dX13_comesTo_75 ?_
      refine x_aload_0 dX13_comesTo_77 ?_
      refine x_getR dX13_comesTo_78 fl1630_13 rfl (by first | (exact MdL.k0 (by assumption)) | (assumption)) (by first | (exact MdL.v_row (by assumption)) | (assumption)) ?_
      refine x_bipush dX13_comesTo_81 rfl ?_
      refine x_bipush dX13_comesTo_83 rfl ?_
      refine x_iload_1 dX13_comesTo_85 ?_
      refine x_imul dX13_comesTo_86 ?_
      refine x_iadd dX13_comesTo_87 ?_
      refine x_iload6 dX13_comesTo_88 ?_
      refine x_iadd dX13_comesTo_90 ?_
      refine x_iald_ dX13_comesTo_91 (by first | (exact MdL.k_row (by assumption)) | (assumption)) (by first | (exact MdL.x_row (by assumption) (by omega) (by omega)) | (omega)) (fun r91 => ?_)
      simp (disch := omega) only [ew] at r91 ⊢
      refine x_callS1 dX13_comesTo_92 rfl okX13_dx q1984 q1985 rfl (C_X13_dx ⟨by omega, by omega⟩ (x_k1 ?_))
      refine x_iadd dX13_comesTo_95 ?_
      refine x_istore4 dX13_comesTo_96 rfl ?_
      refine x_iload5 dX13_comesTo_98 ?_
      refine x_aload_0 dX13_comesTo_100 ?_
      refine x_getR dX13_comesTo_101 fl1630_13 rfl (by first | (exact MdL.k0 (by assumption)) | (assumption)) (by first | (exact MdL.v_row (by assumption)) | (assumption)) ?_
      refine x_bipush dX13_comesTo_104 rfl ?_
      refine x_bipush dX13_comesTo_106 rfl ?_
      refine x_iload_1 dX13_comesTo_108 ?_
      refine x_imul dX13_comesTo_109 ?_
      refine x_iadd dX13_comesTo_110 ?_
      refine x_iload6 dX13_comesTo_111 ?_
      refine x_iadd dX13_comesTo_113 ?_
      refine x_iald_ dX13_comesTo_114 (by first | (exact MdL.k_row (by assumption)) | (assumption)) (by first | (exact MdL.x_row (by assumption) (by omega) (by omega)) | (omega)) (fun r114 => ?_)
      simp (disch := omega) only [ew] at r114 ⊢
      refine x_callS1 dX13_comesTo_115 rfl okX13_dy q1987 q1988 rfl (C_X13_dy ⟨by omega, by omega⟩ (x_k1 ?_))
      refine x_iadd dX13_comesTo_118 ?_
      refine x_istore5 dX13_comesTo_119 rfl ?_
      refine x_iload4 dX13_comesTo_121 ?_
      refine x_iload_2 dX13_comesTo_123 ?_
      refine x_icmp_ne (tgt := 135) dX13_comesTo_124 rfl (by omega) (by omega) (fun c124 => ?_) (fun c124 => ?_)
      · refine x_iinc6 dX13_comesTo_135 rfl ?_
        refine x_goto (tgt := 61) dX13_comesTo_138 rfl ?_
        have := ih (by omega) (by omega) (by omega) (fun z => by
          rw [cmB_s g0, decide_eq_false (p := posX T S m (i + 1) = u ∧ posY T S m (i + 1) = v) (by omega), Bool.or_false] at z
          exact g2 z)
        rw [ex1, ey1] at this
        exact this
      · refine x_iload5 dX13_comesTo_127 ?_
        refine x_iload_3 dX13_comesTo_129 ?_
        refine x_icmp_ne (tgt := 135) dX13_comesTo_130 rfl (by omega) (by omega) (fun c130 => ?_) (fun c130 => ?_)
        · refine x_iinc6 dX13_comesTo_135 rfl ?_
          refine x_goto (tgt := 61) dX13_comesTo_138 rfl ?_
          have := ih (by omega) (by omega) (by omega) (fun z => by
            rw [cmB_s g0, decide_eq_false (p := posX T S m (i + 1) = u ∧ posY T S m (i + 1) = v) (by omega), Bool.or_false] at z
            exact g2 z)
          rw [ex1, ey1] at this
          exact this
        · refine x_iconst dX13_comesTo_133 ?_
          refine x_zret dX13_comesTo_134 rfl (by omega) ?_
          refine kyes (i + 1).toNat (by omega) ?_
          rw [cmB_s g0, decide_eq_true (p := posX T S m (i + 1) = u ∧ posY T S m (i + 1) = v) ⟨by omega, by omega⟩, Bool.or_true]
  · refine x_iload4 dX13_comesTo_44 ?_
    refine x_iload_2 dX13_comesTo_46 ?_
    refine x_icmp_ne (tgt := 58) dX13_comesTo_47 rfl (by omega) (by omega) (fun c47 => ?_) (fun c47 => ?_)
    · refine x_iconst dX13_comesTo_58 ?_
      refine x_istore6 dX13_comesTo_59 rfl ?_
      have hc0 : ¬ cmB T S m u v (0 : Int).toNat = true := fun z => by
        have := of_decide_eq_true z
        omega
      rw [← p0x, ← p0y]
      refine x_up0 (rN S m) (fun i => 0 ≤ i → i ≤ rN S m → ¬ cmB T S m u v i.toNat = true → am_X G mX13_comesTo (d + 2) 61 [aR o, aI m, aI u, aI v, aI (posX T S m i), aI (posY T S m i), aI i] [] L h Q) (fun i ih g0 g1 g2 => ?_) 0 (by omega) bn.1 hc0
      have pbd := pos_bd hT hI hm ⟨g0, g1⟩
      refine x_iload6 dX13_comesTo_61 ?_
      refine x_aload_0 dX13_comesTo_63 ?_
      refine x_getR dX13_comesTo_64 fl1630_13 rfl (by first | (exact MdL.k0 (by assumption)) | (assumption)) (by first | (exact MdL.v_row (by assumption)) | (assumption)) ?_
      refine x_bipush dX13_comesTo_67 rfl ?_
      refine x_iload_1 dX13_comesTo_69 ?_
      refine x_iadd dX13_comesTo_70 ?_
      refine x_iald_ dX13_comesTo_71 (by first | (exact MdL.k_row (by assumption)) | (assumption)) (by first | (exact MdL.x_row (by assumption) (by omega) (by omega)) | (omega)) (fun r71 => ?_)
      simp (disch := omega) only [en] at r71 ⊢
      refine x_icmp_ge (tgt := 141) dX13_comesTo_72 rfl (by omega) (by omega) (fun c72 => ?_) (fun c72 => ?_)
      · refine x_iconst dX13_comesTo_141 ?_
        refine x_zret dX13_comesTo_142 rfl (by omega) ?_
        rw [show i = rN S m by omega] at g2
        refine x_q1 ?_ k
        unfold comI
        rw [if_neg g2]
      · have ew := (hR.2.2.1 m i hm.1 (by omega) g0 (by omega)).1
        rw [← Int.add_assoc] at ew
        have bw := (hI.2.2.1 m i hm.1 hm.2 g0 (by omega)).1
        have pb1 := pos_bd hT hI hm (i := i + 1) ⟨by omega, by omega⟩
        have ex1 := posX_s (T := T) (S := S) (m := m) g0
        have ey1 := posY_s (T := T) (S := S) (m := m) g0
        refine x_iload4 dX13_comesTo_75 ?_
        refine x_aload_0 dX13_comesTo_77 ?_
        refine x_getR dX13_comesTo_78 fl1630_13 rfl (by first | (exact MdL.k0 (by assumption)) | (assumption)) (by first | (exact MdL.v_row (by assumption)) | (assumption)) ?_
        refine x_bipush dX13_comesTo_81 rfl ?_
        refine x_bipush dX13_comesTo_83 rfl ?_
        refine x_iload_1 dX13_comesTo_85 ?_
        refine x_imul dX13_comesTo_86 ?_
        refine x_iadd dX13_comesTo_87 ?_
        refine x_iload6 dX13_comesTo_88 ?_
        refine x_iadd dX13_comesTo_90 ?_
        refine x_iald_ dX13_comesTo_91 (by first | (exact MdL.k_row (by assumption)) | (assumption)) (by first | (exact MdL.x_row (by assumption) (by omega) (by omega)) | (omega)) (fun r91 => ?_)
        simp (disch := omega) only [ew] at r91 ⊢
        refine x_callS1 dX13_comesTo_92 rfl okX13_dx q1984 q1985 rfl (C_X13_dx ⟨by omega, by omega⟩ (x_k1 ?_))
        refine x_iadd dX13_comesTo_95 ?_
        refine x_istore4 dX13_comesTo_96 rfl ?_
        refine x_iload5 dX13_comesTo_98 ?_
        refine x_aload_0 dX13_comesTo_100 ?_
        refine x_getR dX13_comesTo_101 fl1630_13 rfl (by first | (exact MdL.k0 (by assumption)) | (assumption)) (by first | (exact MdL.v_row (by assumption)) | (assumption)) ?_
        refine x_bipush dX13_comesTo_104 rfl ?_
        refine x_bipush dX13_comesTo_106 rfl ?_
        refine x_iload_1 dX13_comesTo_108 ?_
        refine x_imul dX13_comesTo_109 ?_
        refine x_iadd dX13_comesTo_110 ?_
        refine x_iload6 dX13_comesTo_111 ?_
        refine x_iadd dX13_comesTo_113 ?_
        refine x_iald_ dX13_comesTo_114 (by first | (exact MdL.k_row (by assumption)) | (assumption)) (by first | (exact MdL.x_row (by assumption) (by omega) (by omega)) | (omega)) (fun r114 => ?_)
        simp (disch := omega) only [ew] at r114 ⊢
        refine x_callS1 dX13_comesTo_115 rfl okX13_dy q1987 q1988 rfl (C_X13_dy ⟨by omega, by omega⟩ (x_k1 ?_))
        refine x_iadd dX13_comesTo_118 ?_
        refine x_istore5 dX13_comesTo_119 rfl ?_
        refine x_iload4 dX13_comesTo_121 ?_
        refine x_iload_2 dX13_comesTo_123 ?_
        refine x_icmp_ne (tgt := 135) dX13_comesTo_124 rfl (by omega) (by omega) (fun c124 => ?_) (fun c124 => ?_)
        · refine x_iinc6 dX13_comesTo_135 rfl ?_
          refine x_goto (tgt := 61) dX13_comesTo_138 rfl ?_
          have := ih (by omega) (by omega) (by omega) (fun z => by
            rw [cmB_s g0, decide_eq_false (p := posX T S m (i + 1) = u ∧ posY T S m (i + 1) = v) (by omega), Bool.or_false] at z
            exact g2 z)
          rw [ex1, ey1] at this
          exact this
        · refine x_iload5 dX13_comesTo_127 ?_
          refine x_iload_3 dX13_comesTo_129 ?_
          refine x_icmp_ne (tgt := 135) dX13_comesTo_130 rfl (by omega) (by omega) (fun c130 => ?_) (fun c130 => ?_)
          · refine x_iinc6 dX13_comesTo_135 rfl ?_
            refine x_goto (tgt := 61) dX13_comesTo_138 rfl ?_
            have := ih (by omega) (by omega) (by omega) (fun z => by
              rw [cmB_s g0, decide_eq_false (p := posX T S m (i + 1) = u ∧ posY T S m (i + 1) = v) (by omega), Bool.or_false] at z
              exact g2 z)
            rw [ex1, ey1] at this
            exact this
          · refine x_iconst dX13_comesTo_133 ?_
            refine x_zret dX13_comesTo_134 rfl (by omega) ?_
            refine kyes (i + 1).toNat (by omega) ?_
            rw [cmB_s g0, decide_eq_true (p := posX T S m (i + 1) = u ∧ posY T S m (i + 1) = v) ⟨by omega, by omega⟩, Bool.or_true]
    · refine x_iload5 dX13_comesTo_50 ?_
      refine x_iload_3 dX13_comesTo_52 ?_
      refine x_icmp_ne (tgt := 58) dX13_comesTo_53 rfl (by omega) (by omega) (fun c53 => ?_) (fun c53 => ?_)
      · refine x_iconst dX13_comesTo_58 ?_
        refine x_istore6 dX13_comesTo_59 rfl ?_
        have hc0 : ¬ cmB T S m u v (0 : Int).toNat = true := fun z => by
          have := of_decide_eq_true z
          omega
        rw [← p0x, ← p0y]
        refine x_up0 (rN S m) (fun i => 0 ≤ i → i ≤ rN S m → ¬ cmB T S m u v i.toNat = true → am_X G mX13_comesTo (d + 2) 61 [aR o, aI m, aI u, aI v, aI (posX T S m i), aI (posY T S m i), aI i] [] L h Q) (fun i ih g0 g1 g2 => ?_) 0 (by omega) bn.1 hc0
        have pbd := pos_bd hT hI hm ⟨g0, g1⟩
        refine x_iload6 dX13_comesTo_61 ?_
        refine x_aload_0 dX13_comesTo_63 ?_
        refine x_getR dX13_comesTo_64 fl1630_13 rfl (by first | (exact MdL.k0 (by assumption)) | (assumption)) (by first | (exact MdL.v_row (by assumption)) | (assumption)) ?_
        refine x_bipush dX13_comesTo_67 rfl ?_
        refine x_iload_1 dX13_comesTo_69 ?_
        refine x_iadd dX13_comesTo_70 ?_
        refine x_iald_ dX13_comesTo_71 (by first | (exact MdL.k_row (by assumption)) | (assumption)) (by first | (exact MdL.x_row (by assumption) (by omega) (by omega)) | (omega)) (fun r71 => ?_)
        simp (disch := omega) only [en] at r71 ⊢
        refine x_icmp_ge (tgt := 141) dX13_comesTo_72 rfl (by omega) (by omega) (fun c72 => ?_) (fun c72 => ?_)
        · refine x_iconst dX13_comesTo_141 ?_
          refine x_zret dX13_comesTo_142 rfl (by omega) ?_
          rw [show i = rN S m by omega] at g2
          refine x_q1 ?_ k
          unfold comI
          rw [if_neg g2]
        · have ew := (hR.2.2.1 m i hm.1 (by omega) g0 (by omega)).1
          rw [← Int.add_assoc] at ew
          have bw := (hI.2.2.1 m i hm.1 hm.2 g0 (by omega)).1
          have pb1 := pos_bd hT hI hm (i := i + 1) ⟨by omega, by omega⟩
          have ex1 := posX_s (T := T) (S := S) (m := m) g0
          have ey1 := posY_s (T := T) (S := S) (m := m) g0
          refine x_iload4 dX13_comesTo_75 ?_
          refine x_aload_0 dX13_comesTo_77 ?_
          refine x_getR dX13_comesTo_78 fl1630_13 rfl (by first | (exact MdL.k0 (by assumption)) | (assumption)) (by first | (exact MdL.v_row (by assumption)) | (assumption)) ?_
          refine x_bipush dX13_comesTo_81 rfl ?_
          refine x_bipush dX13_comesTo_83 rfl ?_
          refine x_iload_1 dX13_comesTo_85 ?_
          refine x_imul dX13_comesTo_86 ?_
          refine x_iadd dX13_comesTo_87 ?_
          refine x_iload6 dX13_comesTo_88 ?_
          refine x_iadd dX13_comesTo_90 ?_
          refine x_iald_ dX13_comesTo_91 (by first | (exact MdL.k_row (by assumption)) | (assumption)) (by first | (exact MdL.x_row (by assumption) (by omega) (by omega)) | (omega)) (fun r91 => ?_)
          simp (disch := omega) only [ew] at r91 ⊢
          refine x_callS1 dX13_comesTo_92 rfl okX13_dx q1984 q1985 rfl (C_X13_dx ⟨by omega, by omega⟩ (x_k1 ?_))
          refine x_iadd dX13_comesTo_95 ?_
          refine x_istore4 dX13_comesTo_96 rfl ?_
          refine x_iload5 dX13_comesTo_98 ?_
          refine x_aload_0 dX13_comesTo_100 ?_
          refine x_getR dX13_comesTo_101 fl1630_13 rfl (by first | (exact MdL.k0 (by assumption)) | (assumption)) (by first | (exact MdL.v_row (by assumption)) | (assumption)) ?_
          refine x_bipush dX13_comesTo_104 rfl ?_
          refine x_bipush dX13_comesTo_106 rfl ?_
          refine x_iload_1 dX13_comesTo_108 ?_
          refine x_imul dX13_comesTo_109 ?_
          refine x_iadd dX13_comesTo_110 ?_
          refine x_iload6 dX13_comesTo_111 ?_
          refine x_iadd dX13_comesTo_113 ?_
          refine x_iald_ dX13_comesTo_114 (by first | (exact MdL.k_row (by assumption)) | (assumption)) (by first | (exact MdL.x_row (by assumption) (by omega) (by omega)) | (omega)) (fun r114 => ?_)
          simp (disch := omega) only [ew] at r114 ⊢
          refine x_callS1 dX13_comesTo_115 rfl okX13_dy q1987 q1988 rfl (C_X13_dy ⟨by omega, by omega⟩ (x_k1 ?_))
          refine x_iadd dX13_comesTo_118 ?_
          refine x_istore5 dX13_comesTo_119 rfl ?_
          refine x_iload4 dX13_comesTo_121 ?_
          refine x_iload_2 dX13_comesTo_123 ?_
          refine x_icmp_ne (tgt := 135) dX13_comesTo_124 rfl (by omega) (by omega) (fun c124 => ?_) (fun c124 => ?_)
          · refine x_iinc6 dX13_comesTo_135 rfl ?_
            refine x_goto (tgt := 61) dX13_comesTo_138 rfl ?_
            have := ih (by omega) (by omega) (by omega) (fun z => by
              rw [cmB_s g0, decide_eq_false (p := posX T S m (i + 1) = u ∧ posY T S m (i + 1) = v) (by omega), Bool.or_false] at z
              exact g2 z)
            rw [ex1, ey1] at this
            exact this
          · refine x_iload5 dX13_comesTo_127 ?_
            refine x_iload_3 dX13_comesTo_129 ?_
            refine x_icmp_ne (tgt := 135) dX13_comesTo_130 rfl (by omega) (by omega) (fun c130 => ?_) (fun c130 => ?_)
            · refine x_iinc6 dX13_comesTo_135 rfl ?_
              refine x_goto (tgt := 61) dX13_comesTo_138 rfl ?_
              have := ih (by omega) (by omega) (by omega) (fun z => by
                rw [cmB_s g0, decide_eq_false (p := posX T S m (i + 1) = u ∧ posY T S m (i + 1) = v) (by omega), Bool.or_false] at z
                exact g2 z)
              rw [ex1, ey1] at this
              exact this
            · refine x_iconst dX13_comesTo_133 ?_
              refine x_zret dX13_comesTo_134 rfl (by omega) ?_
              refine kyes (i + 1).toNat (by omega) ?_
              rw [cmB_s g0, decide_eq_true (p := posX T S m (i + 1) = u ∧ posY T S m (i + 1) = v) ⟨by omega, by omega⟩, Bool.or_true]
      · refine x_iconst dX13_comesTo_56 ?_
        refine x_zret dX13_comesTo_57 rfl (by omega) ?_
        refine kyes 0 (by omega) (decide_eq_true ⟨by omega, by omega, by omega⟩)
/-- how many threads come to a corner -/
def nAt (T : Txt) (S : Row) (u v : Int) : Int := sumI (tM T) (fun m => comI T S m u v)
theorem comI_bd (T : Txt) (S : Row) (m u v : Int) : 0 ≤ comI T S m u v ∧ comI T S m u v ≤ 1 := by
  unfold comI
  split <;> omega
theorem nAt_bd (hT : TxtI T) (S : Row) (u v : Int) {n : Int} (hn : 0 ≤ n ∧ n ≤ tM T) : 0 ≤ sumI n (fun m => comI T S m u v) ∧ sumI n (fun m => comI T S m u v) ≤ 7 := by
  have := hT.1
  have := sumI_bd (n := n) (b := 1) (f := fun m => comI T S m u v) hn.1 (fun k _ _ => comI_bd T S k u v)
  omega
def cwX (T : Txt) (S : Row) (v : Int) (a : Int × Int) : Nat → Int × Int
  | 0 => a
  | n + 1 => if nAt T S n v ≤ (cwX T S v a n).2 then cwX T S v a n else (100 * v + n, nAt T S n v)
def cwY (T : Txt) (S : Row) : Nat → Int × Int
  | 0 => (-2, 0)
  | n + 1 => cwX T S n (cwY T S n) (tWide T).toNat
theorem cwX_s {v i : Int} {a : Int × Int} (h : 0 ≤ i) : cwX T S v a (i + 1).toNat = if nAt T S i v ≤ (cwX T S v a i.toNat).2 then cwX T S v a i.toNat else (100 * v + i, nAt T S i v) := by
  rw [show (i + 1).toNat = i.toNat + 1 by omega]
  show (if nAt T S (i.toNat : Nat) v ≤ _ then _ else (100 * v + ((i.toNat : Nat) : Int), nAt T S (i.toNat : Nat) v)) = _
  rw [show ((i.toNat : Nat) : Int) = i by omega]
theorem cwY_s {i : Int} (h : 0 ≤ i) : cwY T S (i + 1).toNat = cwX T S i (cwY T S i.toNat) (tWide T).toNat := by
  rw [show (i + 1).toNat = i.toNat + 1 by omega]
  show cwX T S (i.toNat : Nat) _ _ = _
  rw [show ((i.toNat : Nat) : Int) = i by omega]
def cwOk (a : Int × Int) : Prop := (-2 ≤ a.1 ∧ a.1 ≤ 1200) ∧ (0 ≤ a.2 ∧ a.2 ≤ 7)
theorem cwX_ok (hT : TxtI T) {v : Int} (hv : 0 ≤ v ∧ v ≤ 11) {a : Int × Int} (ha : cwOk a) : ∀ n : Nat, (n : Int) ≤ 12 → cwOk (cwX T S v a n)
  | 0, _ => ha
  | n + 1, hn => by
    have h0 := cwX_ok hT hv ha n (by omega)
    have h1 := nAt_bd hT S n v (n := tM T) ⟨hT.1.1, by omega⟩
    unfold cwX
    split
    · exact h0
    · exact ⟨⟨by show -2 ≤ 100 * v + n; omega, by show 100 * v + n ≤ 1200; omega⟩, h1⟩
theorem cwY_ok (hT : TxtI T) : ∀ n : Nat, (n : Int) ≤ 12 → cwOk (cwY T S n)
  | 0, _ => ⟨⟨by show (-2 : Int) ≤ -2; omega, by show (-2 : Int) ≤ 1200; omega⟩, ⟨by show (0 : Int) ≤ 0; omega, by show (0 : Int) ≤ 7; omega⟩⟩
  | n + 1, hn => cwX_ok hT ⟨by omega, by omega⟩ (cwY_ok hT n (by omega)) _ (by have := hT.2.1; omega)
def crowdV (T : Txt) (S : Row) (w : Int) : Int := if 0 ≤ w ∧ w ≤ 1 then (if w = 0 ∨ (cwY T S (tDeep T).toNat).1 < 0 then (cwY T S (tDeep T).toNat).1 else (cwY T S (tDeep T).toNat).2) else -1
set_option maxHeartbeats 8000000 in
theorem C_X0_crowd {w : Int} (hC : CoT L h x t T S) (hT : TxtI T) (hI : RowI T S b q) (hw : rg32 w) (k : Q (.inl [aI (crowdV T S w)]) L h) : am_C G mX0_crowd (d + 430) [aR x, aI w] L h Q := by
  have hK := hC.mk
  have htx := hC.tx
  have hht := hC.ht
  have hM := hT.1
  have hwd := hT.2.1
  have hdp := hT.2.2.1
  refine x_start okX0_crowd rfl rfl rfl rfl ?_
  refine x_iload_1 dX0_crowd_0 ?_
  refine x_iconst dX0_crowd_1 ?_
  refine x_iconst dX0_crowd_2 ?_
  refine x_callS3 dX0_crowd_3 rfl okX0_isIn q1201 q1202 rfl (C_X0_isIn hw ⟨by decide, by decide⟩ ⟨by decide, by decide⟩ (x_k1 ?_))
  refine x_if_ne (tgt := 11) dX0_crowd_6 rfl (by split <;> omega) (fun c6 => ?_) (fun c6 => ?_)
  · refine x_bipush dX0_crowd_11 rfl ?_
    refine x_istore_2 dX0_crowd_13 rfl ?_
    refine x_iconst dX0_crowd_14 ?_
    refine x_istore_3 dX0_crowd_15 rfl ?_
    refine x_iconst dX0_crowd_16 ?_
    refine x_istore4 dX0_crowd_17 rfl ?_
    have hw1 : 0 ≤ w ∧ w ≤ 1 := by split at c6 <;> first | assumption | omega
    refine x_up3 (tDeep T) (fun y w5 w6 w7 => 0 ≤ y → y ≤ tDeep T → am_X G mX0_crowd (d + 430) 19 [aR x, aI w, aI (cwY T S y.toNat).1, aI (cwY T S y.toNat).2, aI y, w5, w6, w7] [] L h Q) (fun y w5 w6 w7 ih g0 g1 => ?_) 0 aU aU aU (by omega) (by omega)
    have ok1 := cwY_ok (S := S) hT y.toNat (by omega)
    refine x_iload4 dX0_crowd_19 ?_
    refine x_aload_0 dX0_crowd_21 ?_
    refine x_getW dX0_crowd_22 fl574_0 rfl (by first | (exact MkL.k0 (by assumption)) | (assumption)) (by assumption) ?_
    refine x_getKI dX0_crowd_25 fl371_4 (by first | (exact TxL.k0 (by assumption)) | (assumption)) (by first | (exact TxL.vD (by assumption)) | (assumption)) (fun r25 => ?_)
    refine x_icmp_ge (tgt := 123) dX0_crowd_28 rfl (by omega) (by omega) (fun c28 => ?_) (fun c28 => ?_)
    · have ey : y = tDeep T := by omega
      subst ey
      unfold cwOk at ok1
      refine x_iload_1 dX0_crowd_123 ?_
      refine x_if_eq (tgt := 131) dX0_crowd_124 rfl (by omega) (fun c124 => ?_) (fun c124 => ?_)
      · refine x_iload_2 dX0_crowd_131 ?_
        refine x_goto (tgt := 136) dX0_crowd_132 rfl ?_
        refine x_iret dX0_crowd_136 rfl ?_
        refine x_q1 ?_ k
        unfold crowdV
        rw [if_pos hw1]
        first
        | (rw [if_pos (by omega)]; done)
        | (rw [if_neg (by omega)]; done)
      · refine x_iload_2 dX0_crowd_127 ?_
        refine x_if_ge (tgt := 135) dX0_crowd_128 rfl (by omega) (fun c128 => ?_) (fun c128 => ?_)
        · refine x_iload_3 dX0_crowd_135 ?_
          refine x_iret dX0_crowd_136 rfl ?_
          refine x_q1 ?_ k
          unfold crowdV
          rw [if_pos hw1]
          first
          | (rw [if_pos (by omega)]; done)
          | (rw [if_neg (by omega)]; done)
        · refine x_iload_2 dX0_crowd_131 ?_
          refine x_goto (tgt := 136) dX0_crowd_132 rfl ?_
          refine x_iret dX0_crowd_136 rfl ?_
          refine x_q1 ?_ k
          unfold crowdV
          rw [if_pos hw1]
          first
          | (rw [if_pos (by omega)]; done)
          | (rw [if_neg (by omega)]; done)
    · refine x_iconst dX0_crowd_31 ?_
      refine x_istore5 dX0_crowd_32 rfl ?_
      have hy : y < tDeep T := by omega
      refine x_up2 (tWide T) (fun i w6 w7 => 0 ≤ i → i ≤ tWide T → am_X G mX0_crowd (d + 430) 34 [aR x, aI w, aI (cwX T S y (cwY T S y.toNat) i.toNat).1, aI (cwX T S y (cwY T S y.toNat) i.toNat).2, aI y, aI i, w6, w7] [] L h Q) (fun i w6 w7 ih2 y0 y1 => ?_) 0 _ _ (by omega) (by omega)
      have ok2 := cwX_ok (S := S) hT (v := y) ⟨by omega, by omega⟩ ok1 i.toNat (by omega)
      generalize hcw : cwX T S y (cwY T S y.toNat) i.toNat = cw at ok2
      have nxt : ∀ u v w6 w7, i < tWide T → (u, v) = (if nAt T S i y ≤ cw.2 then cw else (100 * y + i, nAt T S i y)) → am_X G mX0_crowd (d + 430) 34 [aR x, aI w, aI u, aI v, aI y, aI (i + 1), w6, w7] [] L h Q := fun u v w6 w7 z e => by
        have := ih2 z w6 w7 (by omega) (by omega)
        rw [cwX_s y0, hcw, ← e] at this
        exact this
      have fin : i = tWide T → ∀ w6 w7, am_X G mX0_crowd (d + 430) 19 [aR x, aI w, aI cw.1, aI cw.2, aI (y + 1), aI i, w6, w7] [] L h Q := fun z w6 w7 => by
        have := ih hy (aI i) w6 w7 (by omega) (by omega)
        rw [cwY_s g0, ← z, hcw] at this
        exact this
      clear ih ih2 hcw
      unfold cwOk at ok2
      refine x_iload5 dX0_crowd_34 ?_
      refine x_aload_0 dX0_crowd_36 ?_
      refine x_getW dX0_crowd_37 fl574_0 rfl (by first | (exact MkL.k0 (by assumption)) | (assumption)) (by assumption) ?_
      refine x_getKI dX0_crowd_40 fl368_4 (by first | (exact TxL.k0 (by assumption)) | (assumption)) (by first | (exact TxL.vW (by assumption)) | (assumption)) (fun r40 => ?_)
      refine x_icmp_ge (tgt := 117) dX0_crowd_43 rfl (by omega) (by omega) (fun c43 => ?_) (fun c43 => ?_)
      · refine x_iinc4 dX0_crowd_117 rfl ?_
        refine x_goto (tgt := 19) dX0_crowd_120 rfl ?_
        exact fin (by omega) _ _
      · refine x_iconst dX0_crowd_46 ?_
        refine x_istore6 dX0_crowd_47 rfl ?_
        refine x_iconst dX0_crowd_49 ?_
        refine x_istore7 dX0_crowd_50 rfl ?_
        have hi : i < tWide T := by omega
        have bA := nAt_bd hT S i y (n := tM T) ⟨hM.1, by omega⟩
        refine x_up0 (tM T) (fun m => 0 ≤ m → m ≤ tM T → am_X G mX0_crowd (d + 430) 52 [aR x, aI w, aI cw.1, aI cw.2, aI y, aI i, aI (sumI m (fun m => comI T S m i y)), aI m] [] L h Q) (fun m ih3 z0 z1 => ?_) 0 (by omega) hM.1
        have cb := comI_bd T S m i y
        refine x_iload7 dX0_crowd_52 ?_
        refine x_aload_0 dX0_crowd_54 ?_
        refine x_callV0 dX0_crowd_55 rfl okX0_men q1196 q1198 qs33 (by first | assumption | (exact MkL.k0 (by assumption))) am_k0 rfl (C_X0_men hC (x_k1 ?_))
        refine x_icmp_ge (tgt := 90) dX0_crowd_58 rfl (by omega) (by omega) (fun c58 => ?_) (fun c58 => ?_)
        · have em : m = tM T := by omega
          rw [em]
          rw [show sumI (tM T) (fun m => comI T S m i y) = nAt T S i y from rfl]
          have bA' : 0 ≤ nAt T S i y ∧ nAt T S i y ≤ 7 := bA
          refine x_iload6 dX0_crowd_90 ?_
          refine x_iload_3 dX0_crowd_92 ?_
          refine x_icmp_gt (tgt := 99) dX0_crowd_93 rfl (by omega) (by omega) (fun c93 => ?_) (fun c93 => ?_)
          · refine x_bipush dX0_crowd_99 rfl ?_
            refine x_iload4 dX0_crowd_101 ?_
            refine x_imul dX0_crowd_103 ?_
            refine x_iload5 dX0_crowd_104 ?_
            refine x_iadd dX0_crowd_106 ?_
            refine x_istore_2 dX0_crowd_107 rfl ?_
            refine x_iload6 dX0_crowd_108 ?_
            refine x_istore_3 dX0_crowd_110 rfl ?_
            refine x_iinc5 dX0_crowd_111 rfl ?_
            refine x_goto (tgt := 34) dX0_crowd_114 rfl ?_
            refine nxt _ _ _ _ hi ?_
            first
            | (rw [if_pos (by omega)]; done)
            | (rw [if_neg (by omega)]; done)
          · refine x_goto (tgt := 111) dX0_crowd_96 rfl ?_
            refine x_iinc5 dX0_crowd_111 rfl ?_
            refine x_goto (tgt := 34) dX0_crowd_114 rfl ?_
            refine nxt _ _ _ _ hi ?_
            first
            | (rw [if_pos (by omega)]; done)
            | (rw [if_neg (by omega)]; done)
        · refine x_iload6 dX0_crowd_61 ?_
          refine x_aload_0 dX0_crowd_63 ?_
          refine x_iload7 dX0_crowd_64 ?_
          refine x_iload5 dX0_crowd_66 ?_
          refine x_iload4 dX0_crowd_68 ?_
          refine x_callV3 dX0_crowd_70 rfl okX0_comesTo q1481 q1483 qs47 (by first | assumption | (exact MkL.k0 (by assumption))) am_k0 rfl (C_X0_comesTo hC hT hI ⟨z0, by omega⟩ ⟨by omega, by omega⟩ ⟨by omega, by omega⟩ (x_k1 ?_))
          refine x_if_eq (tgt := 80) dX0_crowd_73 rfl (by omega) (fun c73 => ?_) (fun c73 => ?_)
          · refine x_iconst dX0_crowd_80 ?_
            refine x_iadd dX0_crowd_81 ?_
            refine x_istore6 dX0_crowd_82 rfl ?_
            refine x_iinc7 dX0_crowd_84 rfl ?_
            refine x_goto (tgt := 52) dX0_crowd_87 rfl ?_
            have := ih3 (by omega) (by omega) (by omega)
            rw [sumI_s _ z0] at this
            first
            | (rw [show comI T S m i y = 1 by omega] at this; exact this)
            | (rw [show comI T S m i y = 0 by omega] at this; exact this)
          · refine x_iconst dX0_crowd_76 ?_
            refine x_goto (tgt := 81) dX0_crowd_77 rfl ?_
            refine x_iadd dX0_crowd_81 ?_
            refine x_istore6 dX0_crowd_82 rfl ?_
            refine x_iinc7 dX0_crowd_84 rfl ?_
            refine x_goto (tgt := 52) dX0_crowd_87 rfl ?_
            have := ih3 (by omega) (by omega) (by omega)
            rw [sumI_s _ z0] at this
            first
            | (rw [show comI T S m i y = 1 by omega] at this; exact this)
            | (rw [show comI T S m i y = 0 by omega] at this; exact this)
  · refine x_iconst dX0_crowd_9 ?_
    refine x_iret dX0_crowd_10 rfl ?_
    refine x_q1 ?_ k
    unfold crowdV
    rw [if_neg (fun z => by rw [if_pos z] at c6; omega)]
set_option maxHeartbeats 8000000 in
theorem C_X13_crowd {w : Int} (hC : TwT L h o s T S) (hT : TxtI T) (hI : RowI T S b q) (hw : rg32 w) (k : ∀ h', FrW h h' o → Q (.inl [aI (crowdV T S w)]) L h') : am_C G mX13_crowd (d + 12) [aR o, aI w] L h Q := by
  have hM0 := hC.1
  have hL := hM0.1
  have hs := hM0.2.1
  have hM := hT.1
  have hwd := hT.2.1
  have hdp := hT.2.2.1
  refine x_start okX13_crowd rfl rfl rfl rfl ?_
  refine x_iload_1 dX13_crowd_0 ?_
  refine x_iconst dX13_crowd_1 ?_
  refine x_iconst dX13_crowd_2 ?_
  refine x_callS3 dX13_crowd_3 rfl okX13_in q1931 q1932 rfl (C_X13_in hw ⟨by decide, by decide⟩ ⟨by decide, by decide⟩ (x_k1 ?_))
  refine x_if_ne (tgt := 11) dX13_crowd_6 rfl (by split <;> omega) (fun c6 => ?_) (fun c6 => ?_)
  · refine x_aload_0 dX13_crowd_11 ?_
    refine x_callV0 dX13_crowd_12 rfl okX13_copies q1934 q1936 qs81 (by first | assumption | (exact MdL.k0 (by assumption))) am_k13 rfl (C_X13_copiesR hL hC.2 hI hT (fun h1 e1 f1 e2 e3 => (x_k0 ?_)))
    refine x_bipush dX13_crowd_15 rfl ?_
    refine x_istore_2 dX13_crowd_17 rfl ?_
    refine x_iconst dX13_crowd_18 ?_
    refine x_istore_3 dX13_crowd_19 rfl ?_
    refine x_iconst dX13_crowd_20 ?_
    refine x_istore4 dX13_crowd_21 rfl ?_
    have hw1 : 0 ≤ w ∧ w ≤ 1 := by split at c6 <;> first | assumption | omega
    have hM1 := hM0.fr f1
    have hlv := hM1.2.2.1
    have hmen := hM1.2.2.2.1
    have ewd := hM1.2.2.2.2.1
    have ehi := hM1.2.2.2.2.2.1
    refine x_up3 (tDeep T) (fun y w5 w6 w7 => 0 ≤ y → y ≤ tDeep T → am_X G mX13_crowd (d + 12) 23 [aR o, aI w, aI (cwY T S y.toNat).1, aI (cwY T S y.toNat).2, aI y, w5, w6, w7] [] L h1 Q) (fun y w5 w6 w7 ih g0 g1 => ?_) 0 aU aU aU (by omega) (by omega)
    have ok1 := cwY_ok (S := S) hT y.toNat (by omega)
    refine x_iload4 dX13_crowd_23 ?_
    refine x_aload_0 dX13_crowd_25 ?_
    refine x_getR dX13_crowd_26 fl1597_13 rfl (by first | (exact MdL.k0 (by assumption)) | (assumption)) (by first | (exact MdL.v_high (by assumption)) | (assumption)) ?_
    refine x_aload_0 dX13_crowd_29 ?_
    refine x_getI_ dX13_crowd_30 fl1592_13 (by first | (exact MdL.k0 (by assumption)) | (assumption)) (fun r30 => ?_)
    rw [hlv] at r30 ⊢
    refine x_iald_ dX13_crowd_33 (by first | (exact MdL.k_high (by assumption)) | (assumption)) (by first | (exact MdL.x_high (by assumption) (by omega) (by omega)) | (omega)) (fun r33 => ?_)
    rw [ehi] at r33 ⊢
    refine x_icmp_ge (tgt := 129) dX13_crowd_34 rfl (by omega) (by omega) (fun c34 => ?_) (fun c34 => ?_)
    · have ey : y = tDeep T := by omega
      subst ey
      unfold cwOk at ok1
      refine x_iload_2 dX13_crowd_129 ?_
      refine x_if_lt (tgt := 137) dX13_crowd_130 rfl (by omega) (fun c130 => ?_) (fun c130 => ?_)
      · refine x_iload_2 dX13_crowd_137 ?_
        refine x_goto (tgt := 142) dX13_crowd_138 rfl ?_
        refine x_iret dX13_crowd_142 rfl ?_
        refine x_q1 ?_ (k h1 f1)
        unfold crowdV
        rw [if_pos hw1]
        first
        | (rw [if_pos (by omega)]; done)
        | (rw [if_neg (by omega)]; done)
      · refine x_iload_1 dX13_crowd_133 ?_
        refine x_if_ne (tgt := 141) dX13_crowd_134 rfl (by omega) (fun c134 => ?_) (fun c134 => ?_)
        · refine x_iload_3 dX13_crowd_141 ?_
          refine x_iret dX13_crowd_142 rfl ?_
          refine x_q1 ?_ (k h1 f1)
          unfold crowdV
          rw [if_pos hw1]
          first
          | (rw [if_pos (by omega)]; done)
          | (rw [if_neg (by omega)]; done)
        · refine x_iload_2 dX13_crowd_137 ?_
          refine x_goto (tgt := 142) dX13_crowd_138 rfl ?_
          refine x_iret dX13_crowd_142 rfl ?_
          refine x_q1 ?_ (k h1 f1)
          unfold crowdV
          rw [if_pos hw1]
          first
          | (rw [if_pos (by omega)]; done)
          | (rw [if_neg (by omega)]; done)
    · refine x_iconst dX13_crowd_37 ?_
      refine x_istore5 dX13_crowd_38 rfl ?_
      have hy : y < tDeep T := by omega
      refine x_up2 (tWide T) (fun i w6 w7 => 0 ≤ i → i ≤ tWide T → am_X G mX13_crowd (d + 12) 40 [aR o, aI w, aI (cwX T S y (cwY T S y.toNat) i.toNat).1, aI (cwX T S y (cwY T S y.toNat) i.toNat).2, aI y, aI i, w6, w7] [] L h1 Q) (fun i w6 w7 ih2 y0 y1 => ?_) 0 _ _ (by omega) (by omega)
      have ok2 := cwX_ok (S := S) hT (v := y) ⟨by omega, by omega⟩ ok1 i.toNat (by omega)
      generalize hcw : cwX T S y (cwY T S y.toNat) i.toNat = cw at ok2
      have nxt : ∀ u v w6 w7, i < tWide T → (u, v) = (if nAt T S i y ≤ cw.2 then cw else (100 * y + i, nAt T S i y)) → am_X G mX13_crowd (d + 12) 40 [aR o, aI w, aI u, aI v, aI y, aI (i + 1), w6, w7] [] L h1 Q := fun u v w6 w7 z e => by
        have := ih2 z w6 w7 (by omega) (by omega)
        rw [cwX_s y0, hcw, ← e] at this
        exact this
      have fin : i = tWide T → ∀ w6 w7, am_X G mX13_crowd (d + 12) 23 [aR o, aI w, aI cw.1, aI cw.2, aI (y + 1), aI i, w6, w7] [] L h1 Q := fun z w6 w7 => by
        have := ih hy (aI i) w6 w7 (by omega) (by omega)
        rw [cwY_s g0, ← z, hcw] at this
        exact this
      clear ih ih2 hcw
      unfold cwOk at ok2
      refine x_iload5 dX13_crowd_40 ?_
      refine x_aload_0 dX13_crowd_42 ?_
      refine x_getR dX13_crowd_43 fl1596_13 rfl (by first | (exact MdL.k0 (by assumption)) | (assumption)) (by first | (exact MdL.v_wide (by assumption)) | (assumption)) ?_
      refine x_aload_0 dX13_crowd_46 ?_
      refine x_getI_ dX13_crowd_47 fl1592_13 (by first | (exact MdL.k0 (by assumption)) | (assumption)) (fun r47 => ?_)
      rw [hlv] at r47 ⊢
      refine x_iald_ dX13_crowd_50 (by first | (exact MdL.k_wide (by assumption)) | (assumption)) (by first | (exact MdL.x_wide (by assumption) (by omega) (by omega)) | (omega)) (fun r50 => ?_)
      rw [ewd] at r50 ⊢
      refine x_icmp_ge (tgt := 123) dX13_crowd_51 rfl (by omega) (by omega) (fun c51 => ?_) (fun c51 => ?_)
      · refine x_iinc4 dX13_crowd_123 rfl ?_
        refine x_goto (tgt := 23) dX13_crowd_126 rfl ?_
        exact fin (by omega) _ _
      · refine x_iconst dX13_crowd_54 ?_
        refine x_istore6 dX13_crowd_55 rfl ?_
        refine x_iconst dX13_crowd_57 ?_
        refine x_istore7 dX13_crowd_58 rfl ?_
        have hi : i < tWide T := by omega
        have bA := nAt_bd hT S i y (n := tM T) ⟨hM.1, by omega⟩
        refine x_up0 (tM T) (fun m => 0 ≤ m → m ≤ tM T → am_X G mX13_crowd (d + 12) 60 [aR o, aI w, aI cw.1, aI cw.2, aI y, aI i, aI (sumI m (fun m => comI T S m i y)), aI m] [] L h1 Q) (fun m ih3 z0 z1 => ?_) 0 (by omega) hM.1
        have cb := comI_bd T S m i y
        refine x_iload7 dX13_crowd_60 ?_
        refine x_aload_0 dX13_crowd_62 ?_
        refine x_getR dX13_crowd_63 fl1598_13 rfl (by first | (exact MdL.k0 (by assumption)) | (assumption)) (by first | (exact MdL.v_men (by assumption)) | (assumption)) ?_
        refine x_aload_0 dX13_crowd_66 ?_
        refine x_getI_ dX13_crowd_67 fl1592_13 (by first | (exact MdL.k0 (by assumption)) | (assumption)) (fun r67 => ?_)
        rw [hlv] at r67 ⊢
        refine x_iald_ dX13_crowd_70 (by first | (exact MdL.k_men (by assumption)) | (assumption)) (by first | (exact MdL.x_men (by assumption) (by omega) (by omega)) | (omega)) (fun r70 => ?_)
        rw [hmen] at r70 ⊢
        refine x_icmp_ge (tgt := 96) dX13_crowd_71 rfl (by omega) (by omega) (fun c71 => ?_) (fun c71 => ?_)
        · have em : m = tM T := by omega
          rw [em]
          rw [show sumI (tM T) (fun m => comI T S m i y) = nAt T S i y from rfl]
          have bA' : 0 ≤ nAt T S i y ∧ nAt T S i y ≤ 7 := bA
          refine x_iload6 dX13_crowd_96 ?_
          refine x_iload_3 dX13_crowd_98 ?_
          refine x_icmp_gt (tgt := 105) dX13_crowd_99 rfl (by omega) (by omega) (fun c99 => ?_) (fun c99 => ?_)
          · refine x_bipush dX13_crowd_105 rfl ?_
            refine x_iload4 dX13_crowd_107 ?_
            refine x_imul dX13_crowd_109 ?_
            refine x_iload5 dX13_crowd_110 ?_
            refine x_iadd dX13_crowd_112 ?_
            refine x_istore_2 dX13_crowd_113 rfl ?_
            refine x_iload6 dX13_crowd_114 ?_
            refine x_istore_3 dX13_crowd_116 rfl ?_
            refine x_iinc5 dX13_crowd_117 rfl ?_
            refine x_goto (tgt := 40) dX13_crowd_120 rfl ?_
            refine nxt _ _ _ _ hi ?_
            first
            | (rw [if_pos (by omega)]; done)
            | (rw [if_neg (by omega)]; done)
          · refine x_goto (tgt := 117) dX13_crowd_102 rfl ?_
            refine x_iinc5 dX13_crowd_117 rfl ?_
            refine x_goto (tgt := 40) dX13_crowd_120 rfl ?_
            refine nxt _ _ _ _ hi ?_
            first
            | (rw [if_pos (by omega)]; done)
            | (rw [if_neg (by omega)]; done)
        · refine x_aload_0 dX13_crowd_74 ?_
          refine x_iload7 dX13_crowd_75 ?_
          refine x_iload5 dX13_crowd_77 ?_
          refine x_iload4 dX13_crowd_79 ?_
          refine x_callV3 dX13_crowd_81 rfl okX13_comesTo q2197 q2199 qs110 (by first | assumption | (exact MdL.k0 (by assumption))) am_k13 rfl (C_X13_comesTo hM1 e2 hT hI ⟨z0, by omega⟩ ⟨by omega, by omega⟩ ⟨by omega, by omega⟩ (x_k1 ?_))
          refine x_if_eq (tgt := 90) dX13_crowd_84 rfl (by omega) (fun c84 => ?_) (fun c84 => ?_)
          · refine x_iinc7 dX13_crowd_90 rfl ?_
            refine x_goto (tgt := 60) dX13_crowd_93 rfl ?_
            have := ih3 (by omega) (by omega) (by omega)
            rw [sumI_s _ z0] at this
            first
            | (rw [show comI T S m i y = 1 by omega] at this; exact this)
            | (rw [show comI T S m i y = 0 by omega, Int.add_zero] at this; exact this)
          · refine x_iinc6 dX13_crowd_87 rfl ?_
            refine x_iinc7 dX13_crowd_90 rfl ?_
            refine x_goto (tgt := 60) dX13_crowd_93 rfl ?_
            have := ih3 (by omega) (by omega) (by omega)
            rw [sumI_s _ z0] at this
            first
            | (rw [show comI T S m i y = 1 by omega] at this; exact this)
            | (rw [show comI T S m i y = 0 by omega, Int.add_zero] at this; exact this)
  · refine x_iconst dX13_crowd_9 ?_
    refine x_iret dX13_crowd_10 rfl ?_
    refine x_q1 ?_ (k h (FrW.rf h o))
    unfold crowdV
    rw [if_neg (fun z => by rw [if_pos z] at c6; omega)]
end CROWD
