/-! THE TWIN: small methods, others -/
set_option maxRecDepth 100000
section MSMALL
variable {G : am_G} {d : Nat} {L : am_L} {h : am_H} {Q : am_O → am_L → am_H → Prop} {o s : Int} {T : Txt} {S : Row} {b q : Int}
theorem C_X13_in {v lo hi : Int} (h1 : rg32 v) (h2 : rg32 lo) (h3 : rg32 hi) (k : Q (.inl [aI (if lo ≤ v ∧ v ≤ hi then 1 else 0)]) L h) : am_C G mX13_in (d + 1) [aI v, aI lo, aI hi] L h Q := by
  refine x_start okX13_in rfl rfl rfl rfl ?_
  refine x_iload_0 dX13_in_0 ?_
  refine x_iload_1 dX13_in_1 ?_
  refine x_icmp_lt (tgt := 14) dX13_in_2 rfl (by omega) (by omega) (fun c2 => ?_) (fun c2 => ?_)
  · refine x_iconst dX13_in_14 ?_
    refine x_zret dX13_in_15 rfl (by omega) ?_
    refine x_q1 ?_ k
    (repeat' split) <;> omega
  · refine x_iload_0 dX13_in_5 ?_
    refine x_iload_2 dX13_in_6 ?_
    refine x_icmp_gt (tgt := 14) dX13_in_7 rfl (by omega) (by omega) (fun c7 => ?_) (fun c7 => ?_)
    · refine x_iconst dX13_in_14 ?_
      refine x_zret dX13_in_15 rfl (by omega) ?_
      refine x_q1 ?_ k
      (repeat' split) <;> omega
    · refine x_iconst dX13_in_10 ?_
      refine x_goto (tgt := 15) dX13_in_11 rfl ?_
      refine x_zret dX13_in_15 rfl (by omega) ?_
      refine x_q1 ?_ k
      (repeat' split) <;> omega
theorem C_X13_dx {w : Int} (hw : rg32 w) (k : Q (.inl [aI (dX w)]) L h) : am_C G mX13_dx (d + 1) [aI w] L h Q := by
  refine x_start okX13_dx rfl rfl rfl rfl ?_
  refine x_iload_0 dX13_dx_0 ?_
  refine x_iconst dX13_dx_1 ?_
  refine x_icmp_ne (tgt := 9) dX13_dx_2 rfl (by omega) (by omega) (fun c2 => ?_) (fun c2 => ?_)
  · refine x_iload_0 dX13_dx_9 ?_
    refine x_iconst dX13_dx_10 ?_
    refine x_icmp_ne (tgt := 18) dX13_dx_11 rfl (by omega) (by omega) (fun c11 => ?_) (fun c11 => ?_)
    · refine x_iconst dX13_dx_18 ?_
      refine x_iret dX13_dx_19 rfl ?_
      refine x_q1 ?_ k
      unfold dX
      (repeat' split) <;> omega
    · refine x_iconst dX13_dx_14 ?_
      refine x_goto (tgt := 19) dX13_dx_15 rfl ?_
      refine x_iret dX13_dx_19 rfl ?_
      refine x_q1 ?_ k
      unfold dX
      (repeat' split) <;> omega
  · refine x_iconst dX13_dx_5 ?_
    refine x_goto (tgt := 19) dX13_dx_6 rfl ?_
    refine x_iret dX13_dx_19 rfl ?_
    refine x_q1 ?_ k
    unfold dX
    (repeat' split) <;> omega
theorem C_X13_dy {w : Int} (hw : rg32 w) (k : Q (.inl [aI (dY w)]) L h) : am_C G mX13_dy (d + 1) [aI w] L h Q := by
  refine x_start okX13_dy rfl rfl rfl rfl ?_
  refine x_iload_0 dX13_dy_0 ?_
  refine x_iconst dX13_dy_1 ?_
  refine x_icmp_ne (tgt := 9) dX13_dy_2 rfl (by omega) (by omega) (fun c2 => ?_) (fun c2 => ?_)
  · refine x_iload_0 dX13_dy_9 ?_
    refine x_iconst dX13_dy_10 ?_
    refine x_icmp_ne (tgt := 18) dX13_dy_11 rfl (by omega) (by omega) (fun c11 => ?_) (fun c11 => ?_)
    · refine x_iconst dX13_dy_18 ?_
      refine x_iret dX13_dy_19 rfl ?_
      refine x_q1 ?_ k
      unfold dY
      (repeat' split) <;> omega
    · refine x_iconst dX13_dy_14 ?_
      refine x_goto (tgt := 19) dX13_dy_15 rfl ?_
      refine x_iret dX13_dy_19 rfl ?_
      refine x_q1 ?_ k
      unfold dY
      (repeat' split) <;> omega
  · refine x_iconst dX13_dy_5 ?_
    refine x_goto (tgt := 19) dX13_dy_6 rfl ?_
    refine x_iret dX13_dy_19 rfl ?_
    refine x_q1 ?_ k
    unfold dY
    (repeat' split) <;> omega
theorem C_X13_apart {x y : Int} (hx : rg32 x) (hy : rg32 y) (k : Q (.inl [aI (if x < y then y - x else x - y)]) L h) : am_C G mX13_apart (d + 1) [aI x, aI y] L h Q := by
  refine x_start okX13_apart rfl rfl rfl rfl ?_
  refine x_iload_0 dX13_apart_0 ?_
  refine x_iload_1 dX13_apart_1 ?_
  refine x_icmp_ge (tgt := 11) dX13_apart_2 rfl (by omega) (by omega) (fun c2 => ?_) (fun c2 => ?_)
  · refine x_iload_0 dX13_apart_11 ?_
    refine x_iload_1 dX13_apart_12 ?_
    refine x_isub dX13_apart_13 ?_
    refine x_iret dX13_apart_14 rfl ?_
    refine x_q1 ?_ k
    (repeat' split) <;> omega
  · refine x_iload_1 dX13_apart_5 ?_
    refine x_iload_0 dX13_apart_6 ?_
    refine x_isub dX13_apart_7 ?_
    refine x_goto (tgt := 14) dX13_apart_8 rfl ?_
    refine x_iret dX13_apart_14 rfl ?_
    refine x_q1 ?_ k
    (repeat' split) <;> omega
theorem C_X13_mixed {a b : Int} (k : Q (.inl [aI (mixR a b)]) L h) : am_C G mX13_mixed (d + 1) [aI a, aI b] L h Q := by
  refine x_start okX13_mixed rfl rfl rfl rfl ?_
  refine x_iload_0 dX13_mixed_0 ?_
  refine x_iload_1 dX13_mixed_1 ?_
  refine x_ixor dX13_mixed_2 ?_
  refine x_ldcw (n := 1103515245) dX13_mixed_3 q1967 ?_
  refine x_imul dX13_mixed_6 ?_
  refine x_sipush dX13_mixed_7 rfl ?_
  refine x_iadd dX13_mixed_10 ?_
  refine x_istore_2 dX13_mixed_11 rfl ?_
  refine x_iload_2 dX13_mixed_12 ?_
  refine x_iload_2 dX13_mixed_13 ?_
  refine x_bipush dX13_mixed_14 rfl ?_
  refine x_iushr dX13_mixed_16 ?_
  refine x_ixor dX13_mixed_17 ?_
  refine x_iret dX13_mixed_18 rfl ?_
  exact k
theorem C_X13_lotOf {a b n : Int} (hn : rg32 n) (h0 : n ≠ 0) (k : Q (.inl [aI (lotR a b n)]) L h) : am_C G mX13_lotOf (d + 2) [aI a, aI b, aI n] L h Q := by
  refine x_start okX13_lotOf rfl rfl rfl rfl ?_
  refine x_iload_0 dX13_lotOf_0 ?_
  refine x_bipush dX13_lotOf_1 rfl ?_
  refine x_callS2 dX13_lotOf_3 rfl okX13_mixed q1964 q1965 rfl (C_X13_mixed (x_k1 ?_))
  refine x_iload_1 dX13_lotOf_6 ?_
  refine x_callS2 dX13_lotOf_7 rfl okX13_mixed q1964 q1965 rfl (C_X13_mixed (x_k1 ?_))
  refine x_iconst dX13_lotOf_10 ?_
  refine x_iushr dX13_lotOf_11 ?_
  refine x_iload_2 dX13_lotOf_12 ?_
  refine x_irem dX13_lotOf_13 (by omega) (by omega) ?_
  refine x_iret dX13_lotOf_14 rfl ?_
  exact k
theorem C_X13_streetOf {x y w : Int} (hx : 0 ≤ x ∧ x ≤ 11) (hy : 0 ≤ y ∧ y ≤ 11) (hw : 1 ≤ w ∧ w ≤ 4) (k : Q (.inl [aI (s2 (stO x y w))]) L h) : am_C G mX13_streetOf (d + 1) [aI x, aI y, aI w] L h Q := by
  refine x_start okX13_streetOf rfl rfl rfl rfl ?_
  refine x_iload_2 dX13_streetOf_0 ?_
  refine x_iconst dX13_streetOf_1 ?_
  refine x_icmp_ne (tgt := 11) dX13_streetOf_2 rfl (by omega) (by omega) (fun c2 => ?_) (fun c2 => ?_)
  · refine x_iload_0 dX13_streetOf_11 ?_
    refine x_istore_3 dX13_streetOf_12 rfl ?_
    refine x_iload_2 dX13_streetOf_13 ?_
    refine x_iconst dX13_streetOf_14 ?_
    refine x_icmp_ne (tgt := 24) dX13_streetOf_15 rfl (by omega) (by omega) (fun c15 => ?_) (fun c15 => ?_)
    · refine x_iload_1 dX13_streetOf_24 ?_
      refine x_istore4 dX13_streetOf_25 rfl ?_
      refine x_bipush dX13_streetOf_27 rfl ?_
      refine x_iload4 dX13_streetOf_29 ?_
      refine x_imul dX13_streetOf_31 ?_
      refine x_iload_3 dX13_streetOf_32 ?_
      refine x_iadd dX13_streetOf_33 ?_
      refine x_iload_2 dX13_streetOf_34 ?_
      refine x_iconst dX13_streetOf_35 ?_
      refine x_icmp_eq (tgt := 44) dX13_streetOf_36 rfl (by omega) (by omega) (fun c36 => ?_) (fun c36 => ?_)
      · refine x_sipush dX13_streetOf_44 rfl ?_
        refine x_goto (tgt := 51) dX13_streetOf_47 rfl ?_
        refine x_iadd dX13_streetOf_51 ?_
        refine x_iret dX13_streetOf_52 rfl ?_
        refine x_q1 ?_ k
        unfold s2 stO dX dY
        (repeat' split) <;> omega
      · refine x_iload_2 dX13_streetOf_39 ?_
        refine x_iconst dX13_streetOf_40 ?_
        refine x_icmp_ne (tgt := 50) dX13_streetOf_41 rfl (by omega) (by omega) (fun c41 => ?_) (fun c41 => ?_)
        · refine x_iconst dX13_streetOf_50 ?_
          refine x_iadd dX13_streetOf_51 ?_
          refine x_iret dX13_streetOf_52 rfl ?_
          refine x_q1 ?_ k
          unfold s2 stO dX dY
          (repeat' split) <;> omega
        · refine x_sipush dX13_streetOf_44 rfl ?_
          refine x_goto (tgt := 51) dX13_streetOf_47 rfl ?_
          refine x_iadd dX13_streetOf_51 ?_
          refine x_iret dX13_streetOf_52 rfl ?_
          refine x_q1 ?_ k
          unfold s2 stO dX dY
          (repeat' split) <;> omega
    · refine x_iload_1 dX13_streetOf_18 ?_
      refine x_iconst dX13_streetOf_19 ?_
      refine x_isub dX13_streetOf_20 ?_
      refine x_goto (tgt := 25) dX13_streetOf_21 rfl ?_
      refine x_istore4 dX13_streetOf_25 rfl ?_
      refine x_bipush dX13_streetOf_27 rfl ?_
      refine x_iload4 dX13_streetOf_29 ?_
      refine x_imul dX13_streetOf_31 ?_
      refine x_iload_3 dX13_streetOf_32 ?_
      refine x_iadd dX13_streetOf_33 ?_
      refine x_iload_2 dX13_streetOf_34 ?_
      refine x_iconst dX13_streetOf_35 ?_
      refine x_icmp_eq (tgt := 44) dX13_streetOf_36 rfl (by omega) (by omega) (fun c36 => ?_) (fun c36 => ?_)
      · refine x_sipush dX13_streetOf_44 rfl ?_
        refine x_goto (tgt := 51) dX13_streetOf_47 rfl ?_
        refine x_iadd dX13_streetOf_51 ?_
        refine x_iret dX13_streetOf_52 rfl ?_
        refine x_q1 ?_ k
        unfold s2 stO dX dY
        (repeat' split) <;> omega
      · refine x_iload_2 dX13_streetOf_39 ?_
        refine x_iconst dX13_streetOf_40 ?_
        refine x_icmp_ne (tgt := 50) dX13_streetOf_41 rfl (by omega) (by omega) (fun c41 => ?_) (fun c41 => ?_)
        · refine x_iconst dX13_streetOf_50 ?_
          refine x_iadd dX13_streetOf_51 ?_
          refine x_iret dX13_streetOf_52 rfl ?_
          refine x_q1 ?_ k
          unfold s2 stO dX dY
          (repeat' split) <;> omega
        · refine x_sipush dX13_streetOf_44 rfl ?_
          refine x_goto (tgt := 51) dX13_streetOf_47 rfl ?_
          refine x_iadd dX13_streetOf_51 ?_
          refine x_iret dX13_streetOf_52 rfl ?_
          refine x_q1 ?_ k
          unfold s2 stO dX dY
          (repeat' split) <;> omega
  · refine x_iload_0 dX13_streetOf_5 ?_
    refine x_iconst dX13_streetOf_6 ?_
    refine x_isub dX13_streetOf_7 ?_
    refine x_goto (tgt := 12) dX13_streetOf_8 rfl ?_
    refine x_istore_3 dX13_streetOf_12 rfl ?_
    refine x_iload_2 dX13_streetOf_13 ?_
    refine x_iconst dX13_streetOf_14 ?_
    refine x_icmp_ne (tgt := 24) dX13_streetOf_15 rfl (by omega) (by omega) (fun c15 => ?_) (fun c15 => ?_)
    · refine x_iload_1 dX13_streetOf_24 ?_
      refine x_istore4 dX13_streetOf_25 rfl ?_
      refine x_bipush dX13_streetOf_27 rfl ?_
      refine x_iload4 dX13_streetOf_29 ?_
      refine x_imul dX13_streetOf_31 ?_
      refine x_iload_3 dX13_streetOf_32 ?_
      refine x_iadd dX13_streetOf_33 ?_
      refine x_iload_2 dX13_streetOf_34 ?_
      refine x_iconst dX13_streetOf_35 ?_
      refine x_icmp_eq (tgt := 44) dX13_streetOf_36 rfl (by omega) (by omega) (fun c36 => ?_) (fun c36 => ?_)
      · refine x_sipush dX13_streetOf_44 rfl ?_
        refine x_goto (tgt := 51) dX13_streetOf_47 rfl ?_
        refine x_iadd dX13_streetOf_51 ?_
        refine x_iret dX13_streetOf_52 rfl ?_
        refine x_q1 ?_ k
        unfold s2 stO dX dY
        (repeat' split) <;> omega
      · refine x_iload_2 dX13_streetOf_39 ?_
        refine x_iconst dX13_streetOf_40 ?_
        refine x_icmp_ne (tgt := 50) dX13_streetOf_41 rfl (by omega) (by omega) (fun c41 => ?_) (fun c41 => ?_)
        · refine x_iconst dX13_streetOf_50 ?_
          refine x_iadd dX13_streetOf_51 ?_
          refine x_iret dX13_streetOf_52 rfl ?_
          refine x_q1 ?_ k
          unfold s2 stO dX dY
          (repeat' split) <;> omega
        · refine x_sipush dX13_streetOf_44 rfl ?_
          refine x_goto (tgt := 51) dX13_streetOf_47 rfl ?_
          refine x_iadd dX13_streetOf_51 ?_
          refine x_iret dX13_streetOf_52 rfl ?_
          refine x_q1 ?_ k
          unfold s2 stO dX dY
          (repeat' split) <;> omega
    · refine x_iload_1 dX13_streetOf_18 ?_
      refine x_iconst dX13_streetOf_19 ?_
      refine x_isub dX13_streetOf_20 ?_
      refine x_goto (tgt := 25) dX13_streetOf_21 rfl ?_
      refine x_istore4 dX13_streetOf_25 rfl ?_
      refine x_bipush dX13_streetOf_27 rfl ?_
      refine x_iload4 dX13_streetOf_29 ?_
      refine x_imul dX13_streetOf_31 ?_
      refine x_iload_3 dX13_streetOf_32 ?_
      refine x_iadd dX13_streetOf_33 ?_
      refine x_iload_2 dX13_streetOf_34 ?_
      refine x_iconst dX13_streetOf_35 ?_
      refine x_icmp_eq (tgt := 44) dX13_streetOf_36 rfl (by omega) (by omega) (fun c36 => ?_) (fun c36 => ?_)
      · refine x_sipush dX13_streetOf_44 rfl ?_
        refine x_goto (tgt := 51) dX13_streetOf_47 rfl ?_
        refine x_iadd dX13_streetOf_51 ?_
        refine x_iret dX13_streetOf_52 rfl ?_
        refine x_q1 ?_ k
        unfold s2 stO dX dY
        (repeat' split) <;> omega
      · refine x_iload_2 dX13_streetOf_39 ?_
        refine x_iconst dX13_streetOf_40 ?_
        refine x_icmp_ne (tgt := 50) dX13_streetOf_41 rfl (by omega) (by omega) (fun c41 => ?_) (fun c41 => ?_)
        · refine x_iconst dX13_streetOf_50 ?_
          refine x_iadd dX13_streetOf_51 ?_
          refine x_iret dX13_streetOf_52 rfl ?_
          refine x_q1 ?_ k
          unfold s2 stO dX dY
          (repeat' split) <;> omega
        · refine x_sipush dX13_streetOf_44 rfl ?_
          refine x_goto (tgt := 51) dX13_streetOf_47 rfl ?_
          refine x_iadd dX13_streetOf_51 ?_
          refine x_iret dX13_streetOf_52 rfl ?_
          refine x_q1 ?_ k
          unfold s2 stO dX dY
          (repeat' split) <;> omega
theorem C_X13_isMan {m : Int} (hM : MdT L h o s T) (hT : TxtI T) (hm : rg32 m) (k : Q (.inl [aI (if 0 ≤ m ∧ m < tM T then 1 else 0)]) L h) : am_C G mX13_isMan (d + 2) [aR o, aI m] L h Q := by
  obtain ⟨hL, hs, hlv, hmen, -⟩ := hM
  have h1 := hT.1
  refine x_start okX13_isMan rfl rfl rfl rfl ?_
  refine x_iload_1 dX13_isMan_0 ?_
  refine x_iconst dX13_isMan_1 ?_
  refine x_aload_0 dX13_isMan_2 ?_
  refine x_getR dX13_isMan_3 fl1598_13 rfl (by first | (exact MdL.k0 (by assumption)) | (assumption)) (by first | (exact MdL.v_men (by assumption)) | (assumption)) ?_
  refine x_aload_0 dX13_isMan_6 ?_
  refine x_getI_ dX13_isMan_7 fl1592_13 (by first | (exact MdL.k0 (by assumption)) | (assumption)) (fun r7 => ?_)
  rw [hlv] at r7 ⊢
  refine x_iald_ dX13_isMan_10 (by first | (exact MdL.k_men (by assumption)) | (assumption)) (by first | (exact MdL.x_men (by assumption) (by omega) (by omega)) | (omega)) (fun r10 => ?_)
  rw [hmen] at r10 ⊢
  refine x_iconst dX13_isMan_11 ?_
  refine x_isub dX13_isMan_12 ?_
  refine x_callS3 dX13_isMan_13 rfl okX13_in q1931 q1932 rfl (C_X13_in hm ⟨by omega, by omega⟩ ⟨by omega, by omega⟩ (x_k1 ?_))
  refine x_zret dX13_isMan_16 rfl (by omega) ?_
  refine x_q1 ?_ k
  (repeat' split) <;> omega
theorem C_X13_isCorner {x y : Int} (hM : MdT L h o s T) (hT : TxtI T) (hx : rg32 x) (hy : rg32 y) (k : Q (.inl [aI (if 0 ≤ x ∧ x < tWide T ∧ 0 ≤ y ∧ y < tDeep T then 1 else 0)]) L h) : am_C G mX13_isCorner (d + 2) [aR o, aI x, aI y] L h Q := by
  obtain ⟨hL, hs, hlv, -, hwd, hhi, -⟩ := hM
  have h1 := hT.2.1
  have h2 := hT.2.2.1
  refine x_start okX13_isCorner rfl rfl rfl rfl ?_
  refine x_iload_1 dX13_isCorner_0 ?_
  refine x_iconst dX13_isCorner_1 ?_
  refine x_aload_0 dX13_isCorner_2 ?_
  refine x_getR dX13_isCorner_3 fl1596_13 rfl (by first | (exact MdL.k0 (by assumption)) | (assumption)) (by first | (exact MdL.v_wide (by assumption)) | (assumption)) ?_
  refine x_aload_0 dX13_isCorner_6 ?_
  refine x_getI_ dX13_isCorner_7 fl1592_13 (by first | (exact MdL.k0 (by assumption)) | (assumption)) (fun r7 => ?_)
  rw [hlv] at r7 ⊢
  refine x_iald_ dX13_isCorner_10 (by first | (exact MdL.k_wide (by assumption)) | (assumption)) (by first | (exact MdL.x_wide (by assumption) (by omega) (by omega)) | (omega)) (fun r10 => ?_)
  rw [hwd] at r10 ⊢
  refine x_iconst dX13_isCorner_11 ?_
  refine x_isub dX13_isCorner_12 ?_
  refine x_callS3 dX13_isCorner_13 rfl okX13_in q1931 q1932 rfl (C_X13_in hx ⟨by omega, by omega⟩ ⟨by omega, by omega⟩ (x_k1 ?_))
  refine x_if_eq (tgt := 42) dX13_isCorner_16 rfl (by (repeat' split) <;> omega) (fun c16 => ?_) (fun c16 => ?_)
  · refine x_iconst dX13_isCorner_42 ?_
    refine x_zret dX13_isCorner_43 rfl (by omega) ?_
    refine x_q1 ?_ k
    (repeat' split at c16) <;> (try split at c35) <;> (repeat' split) <;> omega
  · refine x_iload_2 dX13_isCorner_19 ?_
    refine x_iconst dX13_isCorner_20 ?_
    refine x_aload_0 dX13_isCorner_21 ?_
    refine x_getR dX13_isCorner_22 fl1597_13 rfl (by first | (exact MdL.k0 (by assumption)) | (assumption)) (by first | (exact MdL.v_high (by assumption)) | (assumption)) ?_
    refine x_aload_0 dX13_isCorner_25 ?_
    refine x_getI_ dX13_isCorner_26 fl1592_13 (by first | (exact MdL.k0 (by assumption)) | (assumption)) (fun r26 => ?_)
    rw [hlv] at r26 ⊢
    refine x_iald_ dX13_isCorner_29 (by first | (exact MdL.k_high (by assumption)) | (assumption)) (by first | (exact MdL.x_high (by assumption) (by omega) (by omega)) | (omega)) (fun r29 => ?_)
    rw [hhi] at r29 ⊢
    refine x_iconst dX13_isCorner_30 ?_
    refine x_isub dX13_isCorner_31 ?_
    refine x_callS3 dX13_isCorner_32 rfl okX13_in q1931 q1932 rfl (C_X13_in hy ⟨by omega, by omega⟩ ⟨by omega, by omega⟩ (x_k1 ?_))
    refine x_if_eq (tgt := 42) dX13_isCorner_35 rfl (by (repeat' split) <;> omega) (fun c35 => ?_) (fun c35 => ?_)
    · refine x_iconst dX13_isCorner_42 ?_
      refine x_zret dX13_isCorner_43 rfl (by omega) ?_
      refine x_q1 ?_ k
      (repeat' split at c16) <;> (try split at c35) <;> (repeat' split) <;> omega
    · refine x_iconst dX13_isCorner_38 ?_
      refine x_goto (tgt := 43) dX13_isCorner_39 rfl ?_
      refine x_zret dX13_isCorner_43 rfl (by omega) ?_
      refine x_q1 ?_ k
      (repeat' split at c16) <;> (try split at c35) <;> (repeat' split) <;> omega
set_option maxHeartbeats 4000000 in
theorem C_X13_others {street time ab sv : Int} (hM : MdT L h o s T) (hT : TxtI T) (hR : RwF (h (o + 38)) (tM T) S) (hn : ∀ m, 0 ≤ m → m < 7 → 0 ≤ rN S m ∧ rN S m ≤ 60) (hss : ∀ m k, 0 ≤ m → m < tM T → 0 ≤ k → k < rN S m → (s2 (rS S m k) = street ↔ rS S m k = sv)) (h1 : rg32 street) (h2 : rg32 time) (hab : 0 ≤ ab ∧ ab ≤ 1)
    (k : Q (.inl [aI (othR S (tM T) sv time ab)]) L h) : am_C G mX13_others (d + 1) [aR o, aI street, aI time, aI ab] L h Q := by
  obtain ⟨hL, hs, hlv, hmen, -⟩ := hM
  have hMb := hT.1
  obtain ⟨rn, rx, rk, rm, rq⟩ := hR
  refine x_start okX13_others rfl rfl rfl rfl ?_
  refine x_iconst dX13_others_0 ?_
  refine x_istore4 dX13_others_1 rfl ?_
  refine x_iconst dX13_others_3 ?_
  refine x_istore5 dX13_others_4 rfl ?_
  skip
  refine x_up3 (tM T) (fun i n w w2 => 0 ≤ i → i ≤ tM T → n = othR S i sv time ab → am_X G mX13_others (d + 1) 6 [aR o, aI street, aI time, aI ab, aI n, aI i, w, w2] [] L h Q) ?_ 0 0 aU aU (by omega) (by omega) rfl
  intro i n w w2 ih g0 g1 hn1
  have bn := arS_bd (M := i) (n := rN S) (s := rS S) (t := rT S) (sv := sv) (tv := time) (ab := ab) g0 (fun m z0 z1 => hn m z0 (by omega))
  unfold othR at hn1
  refine x_iload5 dX13_others_6 ?_
  refine x_aload_0 dX13_others_8 ?_
  refine x_getR dX13_others_9 fl1598_13 rfl (by first | (exact MdL.k0 (by assumption)) | (assumption)) (by first | (exact MdL.v_men (by assumption)) | (assumption)) ?_
  refine x_aload_0 dX13_others_12 ?_
  refine x_getI_ dX13_others_13 fl1592_13 (by first | (exact MdL.k0 (by assumption)) | (assumption)) (fun r13 => ?_)
  rw [hlv] at r13 ⊢
  refine x_iald_ dX13_others_16 (by first | (exact MdL.k_men (by assumption)) | (assumption)) (by first | (exact MdL.x_men (by assumption) (by omega) (by omega)) | (omega)) (fun r16 => ?_)
  rw [hmen] at r16 ⊢
  refine x_icmp_ge (tgt := 115) dX13_others_17 rfl (by omega) (by omega) (fun c17 => ?_) (fun c17 => ?_)
  · have e : i = tM T := by omega
    subst e
    refine x_iload4 dX13_others_115 ?_
    refine x_iret dX13_others_117 rfl ?_
    rw [hn1]; exact k
  · refine x_iconst dX13_others_20 ?_
    refine x_istore6 dX13_others_21 rfl ?_
    have hi := hn i g0 (by omega)
    refine x_up2 (rN S i) (fun j n' w2 => 0 ≤ j → j ≤ rN S i → n' = n + sumI j (arF (rS S) (rT S) sv time ab i) → am_X G mX13_others (d + 1) 23 [aR o, aI street, aI time, aI ab, aI n', aI i, aI j, w2] [] L h Q) ?_ 0 n _ (by omega) (by omega) (by rw [sumI_0]; omega)
    intro j n' w2 ih2 z0 z1 hn2
    have bj := sumI_bd (n := j) (b := 1) (f := arF (rS S) (rT S) sv time ab i) z0 (fun k _ _ => by unfold arF; split <;> omega)
    obtain ⟨e1, -⟩ := rn i g0 (by omega)
    refine x_iload6 dX13_others_23 ?_
    refine x_aload_0 dX13_others_25 ?_
    refine x_getR dX13_others_26 fl1630_13 rfl (by first | (exact MdL.k0 (by assumption)) | (assumption)) (by first | (exact MdL.v_row (by assumption)) | (assumption)) ?_
    refine x_bipush dX13_others_29 rfl ?_
    refine x_iload5 dX13_others_31 ?_
    refine x_iadd dX13_others_33 ?_
    refine x_iald_ dX13_others_34 (by first | (exact MdL.k_row (by assumption)) | (assumption)) (by first | (exact MdL.x_row (by assumption) (by omega) (by omega)) | (omega)) (fun r34 => ?_)
    rw [e1] at r34 ⊢
    refine x_icmp_ge (tgt := 109) dX13_others_35 rfl (by omega) (by omega) (fun c35 => ?_) (fun c35 => ?_)
    · refine x_iinc5 dX13_others_109 rfl ?_
      refine x_goto (tgt := 6) dX13_others_112 rfl ?_
      refine ih (by omega) _ _ _ (by omega) (by omega) ?_
      rw [hn2, hn1, show j = rN S i by omega]
      exact (sumI_s _ g0).symm
    · obtain ⟨-, e4, e5⟩ := rk i j g0 (by omega) z0 (by omega)
      have e6 := hss i j g0 (by omega) z0 (by omega)
      refine x_bipush dX13_others_38 rfl ?_
      refine x_iload5 dX13_others_40 ?_
      refine x_imul dX13_others_42 ?_
      refine x_iload6 dX13_others_43 ?_
      refine x_iadd dX13_others_45 ?_
      refine x_istore7 dX13_others_46 rfl ?_
      refine x_aload_0 dX13_others_48 ?_
      refine x_getR dX13_others_49 fl1630_13 rfl (by first | (exact MdL.k0 (by assumption)) | (assumption)) (by first | (exact MdL.v_row (by assumption)) | (assumption)) ?_
      refine x_sipush dX13_others_52 rfl ?_
      refine x_iload7 dX13_others_55 ?_
      refine x_iadd dX13_others_57 ?_
      refine x_iald_ dX13_others_58 (by first | (exact MdL.k_row (by assumption)) | (assumption)) (by first | (exact MdL.x_row (by assumption) (by omega) (by omega)) | (omega)) (fun r58 => ?_)
      rw [e5] at r58 ⊢
      refine x_iload_1 dX13_others_59 ?_
      refine x_icmp_ne (tgt := 103) dX13_others_60 rfl (by omega) (by omega) (fun c60 => ?_) (fun c60 => ?_)
      · refine x_iinc6 dX13_others_103 rfl ?_
        refine x_goto (tgt := 23) dX13_others_106 rfl ?_
        refine ih2 (by omega) _ _ (by omega) (by omega) ?_
        rw [sumI_s _ z0, hn2]
        simp only [arF]
        split <;> omega
      · refine x_iload_3 dX13_others_63 ?_
        refine x_if_eq (tgt := 85) dX13_others_64 rfl (by omega) (fun c64 => ?_) (fun c64 => ?_)
        · refine x_aload_0 dX13_others_85 ?_
          refine x_getR dX13_others_86 fl1630_13 rfl (by first | (exact MdL.k0 (by assumption)) | (assumption)) (by first | (exact MdL.v_row (by assumption)) | (assumption)) ?_
          refine x_sipush dX13_others_89 rfl ?_
          refine x_iload7 dX13_others_92 ?_
          refine x_iadd dX13_others_94 ?_
          refine x_iald_ dX13_others_95 (by first | (exact MdL.k_row (by assumption)) | (assumption)) (by first | (exact MdL.x_row (by assumption) (by omega) (by omega)) | (omega)) (fun r95 => ?_)
          rw [e4] at r95 ⊢
          refine x_iload_2 dX13_others_96 ?_
          refine x_icmp_ge (tgt := 103) dX13_others_97 rfl (by omega) (by omega) (fun c97 => ?_) (fun c97 => ?_)
          · refine x_iinc6 dX13_others_103 rfl ?_
            refine x_goto (tgt := 23) dX13_others_106 rfl ?_
            refine ih2 (by omega) _ _ (by omega) (by omega) ?_
            rw [sumI_s _ z0, hn2]
            simp only [arF]
            split <;> omega
          · refine x_iinc4 dX13_others_100 rfl ?_
            refine x_iinc6 dX13_others_103 rfl ?_
            refine x_goto (tgt := 23) dX13_others_106 rfl ?_
            refine ih2 (by omega) _ _ (by omega) (by omega) ?_
            rw [sumI_s _ z0, hn2]
            simp only [arF]
            split <;> omega
        · refine x_aload_0 dX13_others_67 ?_
          refine x_getR dX13_others_68 fl1630_13 rfl (by first | (exact MdL.k0 (by assumption)) | (assumption)) (by first | (exact MdL.v_row (by assumption)) | (assumption)) ?_
          refine x_sipush dX13_others_71 rfl ?_
          refine x_iload7 dX13_others_74 ?_
          refine x_iadd dX13_others_76 ?_
          refine x_iald_ dX13_others_77 (by first | (exact MdL.k_row (by assumption)) | (assumption)) (by first | (exact MdL.x_row (by assumption) (by omega) (by omega)) | (omega)) (fun r77 => ?_)
          rw [e4] at r77 ⊢
          refine x_iload_2 dX13_others_78 ?_
          refine x_icmp_le (tgt := 103) dX13_others_79 rfl (by omega) (by omega) (fun c79 => ?_) (fun c79 => ?_)
          · refine x_iinc6 dX13_others_103 rfl ?_
            refine x_goto (tgt := 23) dX13_others_106 rfl ?_
            refine ih2 (by omega) _ _ (by omega) (by omega) ?_
            rw [sumI_s _ z0, hn2]
            simp only [arF]
            split <;> omega
          · refine x_goto (tgt := 100) dX13_others_82 rfl ?_
            refine x_iinc4 dX13_others_100 rfl ?_
            refine x_iinc6 dX13_others_103 rfl ?_
            refine x_goto (tgt := 23) dX13_others_106 rfl ?_
            refine ih2 (by omega) _ _ (by omega) (by omega) ?_
            rw [sumI_s _ z0, hn2]
            simp only [arF]
            split <;> omega
end MSMALL
