/-! CUTS: the operations -/
set_option maxRecDepth 100000
section CUTS2
variable {G : am_G} {d : Nat} {L : am_L} {h h' : am_H} {Q : am_O → am_L → am_H → Prop} {x o s t : Int} {T : Txt} {S : Row} {b q : Int}
theorem C_X0_cuts {w : Int} (hC : CoT L h x t T S) (hT : TxtI T) (hI : RowI T S b q) (hw : rg32 w) (k : ∀ h', FrS h h' x → Q (.inl [aI (cutsV T S w)]) L h') : am_C G mX0_cuts (d + 445) [aR x, aI w] L h Q := by
  have hK := hC.mk
  have hM := hT.1
  have lb := (lcut_ok (S := S) hT 128 (by omega)).1
  refine x_start okX0_cuts rfl rfl rfl rfl ?_
  refine x_iload_1 dX0_cuts_0 ?_
  refine x_iconst dX0_cuts_1 ?_
  refine x_iconst dX0_cuts_2 ?_
  refine x_callS3 dX0_cuts_3 rfl okX0_isIn q1201 q1202 rfl (C_X0_isIn hw ⟨by decide, by decide⟩ ⟨by decide, by decide⟩ (x_k1 ?_))
  refine x_if_ne (tgt := 11) dX0_cuts_6 rfl (by split <;> omega) (fun c6 => ?_) (fun c6 => ?_)
  · refine x_aload_0 dX0_cuts_11 ?_
    refine x_callV0 dX0_cuts_12 rfl okX0_leastCut q1336 q1338 qs37 (by first | assumption | (exact MkL.k0 (by assumption))) am_k0 rfl (C_X0_leastCut (d := d + 4) hC hT hI (fun h1 q1 => (x_k1 ?_)))
    refine x_istore_2 dX0_cuts_15 rfl ?_
    refine x_iload_1 dX0_cuts_16 ?_
    refine x_if_ne (tgt := 27) dX0_cuts_17 rfl (by omega) (fun c17 => ?_) (fun c17 => ?_)
    · refine x_iload_1 dX0_cuts_27 ?_
      refine x_iconst dX0_cuts_28 ?_
      refine x_icmp_ne (tgt := 40) dX0_cuts_29 rfl (by omega) (by omega) (fun c29 => ?_) (fun c29 => ?_)
      · refine x_iload_2 dX0_cuts_40 ?_
        refine x_iret dX0_cuts_41 rfl ?_
        refine x_q1 ?_ (k h1 q1)
        unfold cutsV
        first | (rw [if_pos (by omega)]; done) | (rw [if_neg (by omega), if_pos (by omega)]; done) | (rw [if_neg (by omega), if_neg (by omega), if_pos (by split at c6 <;> omega)]; done)
      · refine x_aload_0 dX0_cuts_32 ?_
        refine x_iload_2 dX0_cuts_33 ?_
        refine x_callV1 dX0_cuts_34 rfl okX0_piecesOf q1346 q1348 qs38 (by first | assumption | (exact MkL.k0 (by assumption))) am_k0 rfl (C_X0_piecesOf (hC.fr q1) hT hI lb (x_k1 ?_))
        refine x_goto (tgt := 41) dX0_cuts_37 rfl ?_
        refine x_iret dX0_cuts_41 rfl ?_
        refine x_q1 ?_ (k h1 q1)
        unfold cutsV
        first | (rw [if_pos (by omega)]; done) | (rw [if_neg (by omega), if_pos (by omega)]; done) | (rw [if_neg (by omega), if_neg (by omega), if_pos (by split at c6 <;> omega)]; done)
    · refine x_iload_2 dX0_cuts_20 ?_
      refine x_callS1 dX0_cuts_21 rfl okJ16_bitCount q1340 q1341 rfl (C_J16_bitCount lb (x_k1 ?_))
      refine x_goto (tgt := 41) dX0_cuts_24 rfl ?_
      refine x_iret dX0_cuts_41 rfl ?_
      refine x_q1 ?_ (k h1 q1)
      unfold cutsV
      first | (rw [if_pos (by omega)]; done) | (rw [if_neg (by omega), if_pos (by omega)]; done) | (rw [if_neg (by omega), if_neg (by omega), if_pos (by split at c6 <;> omega)]; done)
  · refine x_iconst dX0_cuts_9 ?_
    refine x_iret dX0_cuts_10 rfl ?_
    refine x_q1 ?_ (k h (FrS.rf h x))
    unfold cutsV
    rw [if_neg (by split at c6 <;> omega), if_neg (by split at c6 <;> omega), if_neg (by split at c6 <;> omega)]
set_option maxHeartbeats 8000000 in
theorem C_X13_cuts {w : Int} (hC : TwT L h o s T S) (hT : TxtI T) (hI : RowI T S b q) (hw : rg32 w) (k : ∀ h', FrW h h' o → Q (.inl [aI (cutsV T S w)]) L h') : am_C G mX13_cuts (d + 12) [aR o, aI w] L h Q := by
  have hM := hC.1
  have hL := hM.1
  have hM7 := hT.1
  have bo := outR_ok (S := S) hT
  have lb9 := (lcut_ok (S := S) hT 128 (by omega)).1
  refine x_start okX13_cuts rfl rfl rfl rfl ?_
  refine x_iload_1 dX13_cuts_0 ?_
  refine x_iconst dX13_cuts_1 ?_
  refine x_iconst dX13_cuts_2 ?_
  refine x_callS3 dX13_cuts_3 rfl okX13_in q1931 q1932 rfl (C_X13_in hw ⟨by decide, by decide⟩ ⟨by decide, by decide⟩ (x_k1 ?_))
  refine x_if_ne (tgt := 11) dX13_cuts_6 rfl (by split <;> omega) (fun c6 => ?_) (fun c6 => ?_)
  · refine x_aload_0 dX13_cuts_11 ?_
    refine x_callV0 dX13_cuts_12 rfl okX13_copies q1934 q1936 qs81 (by first | assumption | (exact MdL.k0 (by assumption))) am_k13 rfl (C_X13_copiesR hL hC.2 hI hT (fun h1 e1 f1 e2 e3 => (x_k0 ?_)))
    refine x_aload_0 dX13_cuts_15 ?_
    refine x_callV0 dX13_cuts_16 rfl okX13_fillsWaits q2046 q2048 qs95 (by first | assumption | (exact MdL.k0 (by assumption))) am_k13 rfl (C_X13_fillsWaits (hM.fr f1) hT e2 hI (fun h2 g1 g2 => (x_k1 ?_)))
    have f2 : FrW h h2 o := f1.tr fun a i z => by rw [g1 a (by omega)]
    refine x_istore_2 dX13_cuts_19 rfl ?_
    refine x_aload_0 dX13_cuts_20 ?_
    refine x_callV0 dX13_cuts_21 rfl okX13_fillsOrders q2054 q2056 qs96 (by first | assumption | (exact MdL.k0 (by assumption))) am_k13 rfl (C_X13_fillsOrders (S := S) (hM.fr f2) hT g2 (fun h3 g3 g4 => (x_k0 ?_)))
    refine x_iload_2 dX13_cuts_24 ?_
    refine x_istore_3 dX13_cuts_25 rfl ?_
    refine x_iconst dX13_cuts_26 ?_
    refine x_istore4 dX13_cuts_27 rfl ?_
    have f3 : FrW h h3 o := f2.tr fun a i z => by rw [g3 a (by omega)]
    have hM3 := hM.fr f3
    have hR3 : RwF (h3 (o + 38)) (tM T) S := by rw [g3 _ (by omega), g1 _ (by omega)]; exact e2
    have hw3 : 0 ≤ w ∧ w ≤ 2 := by split at c6 <;> omega
    refine x_up1 128 (fun i w1 => 0 ≤ i → i ≤ 128 → am_X G mX13_cuts (d + 12) 29 [aR o, aI w, aI (outR T S), aI (lcut T S i.toNat), aI i, w1] [] L h3 Q) (fun i w1 ih y0 y1 => ?_) 0 _ (by omega) (by omega)
    obtain ⟨lb, lo⟩ := lcut_ok (S := S) hT i.toNat (by omega)
    have nxt : ∀ v w1, i < 128 → v = lcut T S (i + 1).toNat → am_X G mX13_cuts (d + 12) 29 [aR o, aI w, aI (outR T S), aI v, aI (i + 1), w1] [] L h3 Q := fun v w1 z e => by rw [e]; exact ih z _ (by omega) (by omega)
    refine x_iload4 dX13_cuts_29 ?_
    refine x_sipush dX13_cuts_31 rfl ?_
    refine x_icmp_ge (tgt := 108) dX13_cuts_34 rfl (by omega) (by omega) (fun c34 => ?_) (fun c34 => ?_)
    · rw [show i = 128 by omega]
      show am_X G mX13_cuts (d + 12) 108 [aR o, aI w, aI (outR T S), aI (lcut T S 128), aI 128, w1] [] L h3 Q
      refine x_iload_1 dX13_cuts_108 ?_
      refine x_if_ne (tgt := 119) dX13_cuts_109 rfl (by omega) (fun c109 => ?_) (fun c109 => ?_)
      · refine x_iload_1 dX13_cuts_119 ?_
        refine x_iconst dX13_cuts_120 ?_
        refine x_icmp_ne (tgt := 132) dX13_cuts_121 rfl (by omega) (by omega) (fun c121 => ?_) (fun c121 => ?_)
        · refine x_iload_3 dX13_cuts_132 ?_
          refine x_iret dX13_cuts_133 rfl ?_
          refine x_q1 ?_ (k h3 f3)
          unfold cutsV
          first | (rw [if_pos (by omega)]; done) | (rw [if_neg (by omega), if_pos (by omega)]; done) | (rw [if_neg (by omega), if_neg (by omega), if_pos (by omega)]; done)
        · refine x_aload_0 dX13_cuts_124 ?_
          refine x_iload_3 dX13_cuts_125 ?_
          refine x_callV1 dX13_cuts_126 rfl okX13_piecesOf q2069 q2071 qs97 (by first | assumption | (exact MdL.k0 (by assumption))) am_k13 rfl (C_X13_piecesOf hM3 hR3 hT hI lb9 (x_k1 ?_))
          refine x_goto (tgt := 133) dX13_cuts_129 rfl ?_
          refine x_iret dX13_cuts_133 rfl ?_
          refine x_q1 ?_ (k h3 f3)
          unfold cutsV
          first | (rw [if_pos (by omega)]; done) | (rw [if_neg (by omega), if_pos (by omega)]; done) | (rw [if_neg (by omega), if_neg (by omega), if_pos (by omega)]; done)
      · refine x_iload_3 dX13_cuts_112 ?_
        refine x_callS1 dX13_cuts_113 rfl okX13_bits q2066 q2067 rfl (C_X13_bits lb9 (x_k1 ?_))
        refine x_goto (tgt := 133) dX13_cuts_116 rfl ?_
        refine x_iret dX13_cuts_133 rfl ?_
        refine x_q1 ?_ (k h3 f3)
        unfold cutsV
        first | (rw [if_pos (by omega)]; done) | (rw [if_neg (by omega), if_pos (by omega)]; done) | (rw [if_neg (by omega), if_neg (by omega), if_pos (by omega)]; done)
    · have hi : i < 128 := by omega
      have hi2 : 0 ≤ i ∧ i < 128 := by omega
      have d1 : dif i (outR T S) = bAnd i (bXor (outR T S) (-1)) := rfl
      have d2 : dif (outR T S) i = bAnd (outR T S) (bXor i (-1)) := rfl
      have d3 := (dif_bt hi2 bo.1 (m := 0) ⟨by decide, by decide⟩).2
      have d4 := (dif_bt bo.1 hi2 (m := 0) ⟨by decide, by decide⟩).2
      have e3' : h3 (o + 42) (bAnd (outR T S) (bXor i (-1))) = ordR T S (dif (outR T S) i) := g4 _ d4.1 d4.2
      have bb1 := bits_bd i
      have bb2 := bits_bd (lcut T S i.toNat)
      have pp1 := pcs_bd hT hI i (n := tM T) ⟨hM7.1, by omega⟩
      have pp2 := pcs_bd hT hI (lcut T S i.toNat) (n := tM T) ⟨hM7.1, by omega⟩
      have pe1 : pcsR T S i = sumI (tM T) (fun m => if bt i m = 1 then rN S m else 0) := rfl
      have pe2 : pcsR T S (lcut T S i.toNat) = sumI (tM T) (fun m => if bt (lcut T S i.toNat) m = 1 then rN S m else 0) := rfl
      have br := ordR_bd (S := S) hT d4
      refine x_iload4 dX13_cuts_37 ?_
      refine x_iload_2 dX13_cuts_39 ?_
      refine x_iconst dX13_cuts_40 ?_
      refine x_ixor dX13_cuts_41 ?_
      refine x_iand dX13_cuts_42 ?_
      refine x_if_ne (tgt := 102) dX13_cuts_43 rfl (by omega) (fun c43 => ?_) (fun c43 => ?_)
      · refine x_iinc4 dX13_cuts_102 rfl ?_
        refine x_goto (tgt := 29) dX13_cuts_105 rfl ?_
        refine nxt _ _ hi ?_
        rw [lcut_s y0]
        first | (rw [if_neg (fun z => by omega)]; done) | (rw [if_pos ⟨by omega, by omega, by omega⟩]; done)
      · refine x_aload_0 dX13_cuts_46 ?_
        refine x_getR dX13_cuts_47 fl1635_13 rfl (by first | (exact MdL.k0 (by assumption)) | (assumption)) (by first | (exact MdL.v_ordersOf (by assumption)) | (assumption)) ?_
        refine x_iload_2 dX13_cuts_50 ?_
        refine x_iload4 dX13_cuts_51 ?_
        refine x_iconst dX13_cuts_53 ?_
        refine x_ixor dX13_cuts_54 ?_
        refine x_iand dX13_cuts_55 ?_
        refine x_iald_ dX13_cuts_56 (by first | (exact MdL.k_ordersOf (by assumption)) | (assumption)) (by first | (exact MdL.x_ordersOf (by assumption) (by omega) (by omega)) | (omega)) (fun r56 => ?_)
        rw [e3'] at r56 ⊢
        refine x_if_ne (tgt := 63) dX13_cuts_57 rfl (by omega) (fun c57 => ?_) (fun c57 => ?_)
        · refine x_iload4 dX13_cuts_63 ?_
          refine x_callS1 dX13_cuts_65 rfl okX13_bits q2066 q2067 rfl (C_X13_bits (by assumption) (x_k1 ?_))
          refine x_iload_3 dX13_cuts_68 ?_
          refine x_callS1 dX13_cuts_69 rfl okX13_bits q2066 q2067 rfl (C_X13_bits (by assumption) (x_k1 ?_))
          refine x_isub dX13_cuts_72 ?_
          refine x_istore5 dX13_cuts_73 rfl ?_
          refine x_iload5 dX13_cuts_75 ?_
          refine x_if_lt (tgt := 99) dX13_cuts_77 rfl (by omega) (fun c77 => ?_) (fun c77 => ?_)
          · refine x_iload4 dX13_cuts_99 ?_
            refine x_istore_3 dX13_cuts_101 rfl ?_
            refine x_iinc4 dX13_cuts_102 rfl ?_
            refine x_goto (tgt := 29) dX13_cuts_105 rfl ?_
            refine nxt _ _ hi ?_
            rw [lcut_s y0]
            first | (rw [if_neg (fun z => by omega)]; done) | (rw [if_pos ⟨by omega, by omega, by omega⟩]; done)
          · refine x_iload5 dX13_cuts_80 ?_
            refine x_if_ne (tgt := 102) dX13_cuts_82 rfl (by omega) (fun c82 => ?_) (fun c82 => ?_)
            · refine x_iinc4 dX13_cuts_102 rfl ?_
              refine x_goto (tgt := 29) dX13_cuts_105 rfl ?_
              refine nxt _ _ hi ?_
              rw [lcut_s y0]
              first | (rw [if_neg (fun z => by omega)]; done) | (rw [if_pos ⟨by omega, by omega, by omega⟩]; done)
            · refine x_aload_0 dX13_cuts_85 ?_
              refine x_iload4 dX13_cuts_86 ?_
              refine x_callV1 dX13_cuts_88 rfl okX13_piecesOf q2069 q2071 qs97 (by first | assumption | (exact MdL.k0 (by assumption))) am_k13 rfl (C_X13_piecesOf hM3 hR3 hT hI hi2 (x_k1 ?_))
              refine x_aload_0 dX13_cuts_91 ?_
              refine x_iload_3 dX13_cuts_92 ?_
              refine x_callV1 dX13_cuts_93 rfl okX13_piecesOf q2069 q2071 qs97 (by first | assumption | (exact MdL.k0 (by assumption))) am_k13 rfl (C_X13_piecesOf hM3 hR3 hT hI lb (x_k1 ?_))
              refine x_icmp_ge (tgt := 102) dX13_cuts_96 rfl (by omega) (by omega) (fun c96 => ?_) (fun c96 => ?_)
              · refine x_iinc4 dX13_cuts_102 rfl ?_
                refine x_goto (tgt := 29) dX13_cuts_105 rfl ?_
                refine nxt _ _ hi ?_
                rw [lcut_s y0]
                first | (rw [if_neg (fun z => by omega)]; done) | (rw [if_pos ⟨by omega, by omega, by omega⟩]; done)
              · refine x_iload4 dX13_cuts_99 ?_
                refine x_istore_3 dX13_cuts_101 rfl ?_
                refine x_iinc4 dX13_cuts_102 rfl ?_
                refine x_goto (tgt := 29) dX13_cuts_105 rfl ?_
                refine nxt _ _ hi ?_
                rw [lcut_s y0]
                first | (rw [if_neg (fun z => by omega)]; done) | (rw [if_pos ⟨by omega, by omega, by omega⟩]; done)
        · refine x_goto (tgt := 102) dX13_cuts_60 rfl ?_
          refine x_iinc4 dX13_cuts_102 rfl ?_
          refine x_goto (tgt := 29) dX13_cuts_105 rfl ?_
          refine nxt _ _ hi ?_
          rw [lcut_s y0]
          first | (rw [if_neg (fun z => by omega)]; done) | (rw [if_pos ⟨by omega, by omega, by omega⟩]; done)
  · refine x_iconst dX13_cuts_9 ?_
    refine x_iret dX13_cuts_10 rfl ?_
    refine x_q1 ?_ (k h (FrW.rf h o))
    unfold cutsV
    rw [if_neg (by split at c6 <;> omega), if_neg (by split at c6 <;> omega), if_neg (by split at c6 <;> omega)]
end CUTS2
