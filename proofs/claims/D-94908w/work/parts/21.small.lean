/-! SMALL METHODS of ThreadTown: ways, streets, lots, being in a range; Text.isIn -/
set_option maxRecDepth 100000
theorem x_q1 {Q : am_O → am_L → am_H → Prop} {L : am_L} {h : am_H} {v v' : Int} (e : v = v') (k : Q (.inl [aI v']) L h) : Q (.inl [aI v]) L h := by rw [e]; exact k
section SMALL
variable {G : am_G} {d : Nat} {L : am_L} {h : am_H} {Q : am_O → am_L → am_H → Prop}
theorem C_X0_byX {w : Int} (hw : rg32 w) (k : Q (.inl [aI (dX w)]) L h) : am_C G mX0_byX (d + 1) [aI w] L h Q := by
  refine x_start okX0_byX rfl rfl rfl rfl ?_
  refine x_iload_0 dX0_byX_0 ?_
  refine x_iconst dX0_byX_1 ?_
  refine x_icmp_ne (tgt := 9) dX0_byX_2 rfl (by omega) (by omega) (fun c2 => ?_) (fun c2 => ?_)
  · refine x_iload_0 dX0_byX_9 ?_
    refine x_iconst dX0_byX_10 ?_
    refine x_icmp_ne (tgt := 18) dX0_byX_11 rfl (by omega) (by omega) (fun c11 => ?_) (fun c11 => ?_)
    · refine x_iconst dX0_byX_18 ?_
      refine x_iret dX0_byX_19 rfl ?_
      refine x_q1 ?_ k
      unfold dX
      (repeat' split) <;> omega
    · refine x_iconst dX0_byX_14 ?_
      refine x_goto (tgt := 19) dX0_byX_15 rfl ?_
      refine x_iret dX0_byX_19 rfl ?_
      refine x_q1 ?_ k
      unfold dX
      (repeat' split) <;> omega
  · refine x_iconst dX0_byX_5 ?_
    refine x_goto (tgt := 19) dX0_byX_6 rfl ?_
    refine x_iret dX0_byX_19 rfl ?_
    refine x_q1 ?_ k
    unfold dX
    (repeat' split) <;> omega
theorem C_X0_byY {w : Int} (hw : rg32 w) (k : Q (.inl [aI (dY w)]) L h) : am_C G mX0_byY (d + 1) [aI w] L h Q := by
  refine x_start okX0_byY rfl rfl rfl rfl ?_
  refine x_iload_0 dX0_byY_0 ?_
  refine x_iconst dX0_byY_1 ?_
  refine x_icmp_ne (tgt := 9) dX0_byY_2 rfl (by omega) (by omega) (fun c2 => ?_) (fun c2 => ?_)
  · refine x_iload_0 dX0_byY_9 ?_
    refine x_iconst dX0_byY_10 ?_
    refine x_icmp_ne (tgt := 18) dX0_byY_11 rfl (by omega) (by omega) (fun c11 => ?_) (fun c11 => ?_)
    · refine x_iconst dX0_byY_18 ?_
      refine x_iret dX0_byY_19 rfl ?_
      refine x_q1 ?_ k
      unfold dY
      (repeat' split) <;> omega
    · refine x_iconst dX0_byY_14 ?_
      refine x_goto (tgt := 19) dX0_byY_15 rfl ?_
      refine x_iret dX0_byY_19 rfl ?_
      refine x_q1 ?_ k
      unfold dY
      (repeat' split) <;> omega
  · refine x_iconst dX0_byY_5 ?_
    refine x_goto (tgt := 19) dX0_byY_6 rfl ?_
    refine x_iret dX0_byY_19 rfl ?_
    refine x_q1 ?_ k
    unfold dY
    (repeat' split) <;> omega
theorem C_X0_isIn {v lo hi : Int} (h1 : rg32 v) (h2 : rg32 lo) (h3 : rg32 hi) (k : Q (.inl [aI (if lo ≤ v ∧ v ≤ hi then 1 else 0)]) L h) : am_C G mX0_isIn (d + 1) [aI v, aI lo, aI hi] L h Q := by
  refine x_start okX0_isIn rfl rfl rfl rfl ?_
  refine x_iload_0 dX0_isIn_0 ?_
  refine x_iload_1 dX0_isIn_1 ?_
  refine x_icmp_lt (tgt := 14) dX0_isIn_2 rfl (by omega) (by omega) (fun c2 => ?_) (fun c2 => ?_)
  · refine x_iconst dX0_isIn_14 ?_
    refine x_zret dX0_isIn_15 rfl (by omega) ?_
    refine x_q1 ?_ k
    (repeat' split) <;> omega
  · refine x_iload_0 dX0_isIn_5 ?_
    refine x_iload_2 dX0_isIn_6 ?_
    refine x_icmp_gt (tgt := 14) dX0_isIn_7 rfl (by omega) (by omega) (fun c7 => ?_) (fun c7 => ?_)
    · refine x_iconst dX0_isIn_14 ?_
      refine x_zret dX0_isIn_15 rfl (by omega) ?_
      refine x_q1 ?_ k
      (repeat' split) <;> omega
    · refine x_iconst dX0_isIn_10 ?_
      refine x_goto (tgt := 15) dX0_isIn_11 rfl ?_
      refine x_zret dX0_isIn_15 rfl (by omega) ?_
      refine x_q1 ?_ k
      (repeat' split) <;> omega
theorem C_X0_mixed {a b : Int} (k : Q (.inl [aI (mixR a b)]) L h) : am_C G mX0_mixed (d + 1) [aI a, aI b] L h Q := by
  refine x_start okX0_mixed rfl rfl rfl rfl ?_
  refine x_iload_0 dX0_mixed_0 ?_
  refine x_iload_1 dX0_mixed_1 ?_
  refine x_ixor dX0_mixed_2 ?_
  refine x_ldc (n := 1103515245) dX0_mixed_3 q1224 ?_
  refine x_imul dX0_mixed_5 ?_
  refine x_sipush dX0_mixed_6 rfl ?_
  refine x_iadd dX0_mixed_9 ?_
  refine x_istore_2 dX0_mixed_10 rfl ?_
  refine x_iload_2 dX0_mixed_11 ?_
  refine x_iload_2 dX0_mixed_12 ?_
  refine x_bipush dX0_mixed_13 rfl ?_
  refine x_iushr dX0_mixed_15 ?_
  refine x_ixor dX0_mixed_16 ?_
  refine x_iret dX0_mixed_17 rfl ?_
  exact k
theorem C_X0_lot {a b n : Int} (hn : rg32 n) (h0 : n ≠ 0) (k : Q (.inl [aI (lotR a b n)]) L h) : am_C G mX0_lot (d + 2) [aI a, aI b, aI n] L h Q := by
  refine x_start okX0_lot rfl rfl rfl rfl ?_
  refine x_iload_0 dX0_lot_0 ?_
  refine x_bipush dX0_lot_1 rfl ?_
  refine x_callS2 dX0_lot_3 rfl okX0_mixed q1221 q1222 rfl (C_X0_mixed (x_k1 ?_))
  refine x_iload_1 dX0_lot_6 ?_
  refine x_callS2 dX0_lot_7 rfl okX0_mixed q1221 q1222 rfl (C_X0_mixed (x_k1 ?_))
  refine x_iconst dX0_lot_10 ?_
  refine x_iushr dX0_lot_11 ?_
  refine x_iload_2 dX0_lot_12 ?_
  refine x_irem dX0_lot_13 (by omega) (by omega) ?_
  refine x_iret dX0_lot_14 rfl ?_
  exact k
theorem C_X0_streetOf {x y w : Int} (hx : 0 ≤ x ∧ x ≤ 11) (hy : 0 ≤ y ∧ y ≤ 11) (hw : rg32 w) (k : Q (.inl [aI (stO x y w)]) L h) : am_C G mX0_streetOf (d + 2) [aI x, aI y, aI w] L h Q := by
  have bx := dX_bd w
  have b_y := dY_bd w
  refine x_start okX0_streetOf rfl rfl rfl rfl ?_
  refine x_iload_0 dX0_streetOf_0 ?_
  refine x_iload_0 dX0_streetOf_1 ?_
  refine x_iload_2 dX0_streetOf_2 ?_
  refine x_callS1 dX0_streetOf_3 rfl okX0_byX q1256 q1247 rfl (C_X0_byX hw (x_k1 ?_))
  refine x_iadd dX0_streetOf_6 ?_
  refine x_mmin dX0_streetOf_7 q1257 q569 q135 q570 rfl (by omega) (by omega) ?_
  refine x_istore_3 dX0_streetOf_10 rfl ?_
  refine x_iload_1 dX0_streetOf_11 ?_
  refine x_iload_1 dX0_streetOf_12 ?_
  refine x_iload_2 dX0_streetOf_13 ?_
  refine x_callS1 dX0_streetOf_14 rfl okX0_byY q1258 q1250 rfl (C_X0_byY hw (x_k1 ?_))
  refine x_iadd dX0_streetOf_17 ?_
  refine x_mmin dX0_streetOf_18 q1257 q569 q135 q570 rfl (by omega) (by omega) ?_
  refine x_istore4 dX0_streetOf_21 rfl ?_
  refine x_iconst dX0_streetOf_23 ?_
  refine x_bipush dX0_streetOf_24 rfl ?_
  refine x_iload4 dX0_streetOf_26 ?_
  refine x_imul dX0_streetOf_28 ?_
  refine x_iload_3 dX0_streetOf_29 ?_
  refine x_iadd dX0_streetOf_30 ?_
  refine x_imul dX0_streetOf_31 ?_
  refine x_iload_2 dX0_streetOf_32 ?_
  refine x_callS1 dX0_streetOf_33 rfl okX0_byY q1258 q1250 rfl (C_X0_byY hw (x_k1 ?_))
  refine x_if_ne (tgt := 43) dX0_streetOf_36 rfl (by omega) (fun c36 => ?_) (fun c36 => ?_)
  · refine x_iconst dX0_streetOf_43 ?_
    refine x_iadd dX0_streetOf_44 ?_
    refine x_iret dX0_streetOf_45 rfl ?_
    refine x_q1 ?_ k
    unfold stO
    (repeat' split) <;> omega
  · refine x_iconst dX0_streetOf_39 ?_
    refine x_goto (tgt := 44) dX0_streetOf_40 rfl ?_
    refine x_iadd dX0_streetOf_44 ?_
    refine x_iret dX0_streetOf_45 rfl ?_
    refine x_q1 ?_ k
    unfold stO
    (repeat' split) <;> omega
end SMALL
