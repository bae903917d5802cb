/-! CLOTH: goes, minute, begins -/
set_option maxRecDepth 100000
section CLOTH6
variable {G : am_G} {d : Nat} {L : am_L} {h : am_H} {Q : am_O → am_L → am_H → Prop} {c t b q : Int} {T : Txt} {S : Row}
set_option maxHeartbeats 4000000 in
theorem C_X5_goes {m off : Int} (hr : RC L h c T S) (hI : RowI T S b q) (hb : b ≤ 100000 ∧ q ≤ 100000) (hT : TxtI T) (ht : TxL L t T) (hm : 0 ≤ m ∧ m < tM T) (ho : 0 ≤ off ∧ off ≤ 1)
    (k : ∀ h', RC L h' c T (goR T S m off) → FrC h h' c → Q (.inl []) L h') : am_C G mX5_goes (d + 424) [aR c, aR t, aI m, aI off] L h Q := by
  have hm7 : m < 7 := by have := hT.1; omega
  have hn := (hI.1 m hm.1 hm7).1
  have bl := lng_bd hT m
  have hmi := hI.2.2.2.2.2.2.1
  have hd := doesR_bd (S := S) hT hm off
  have kcl := hr.1
  have hxy : rg32 (rX S m) ∧ rg32 (rY S m) := by
    have := (hI.2.1 m hm.1 hm.2).1
    unfold inT at this
    have := hT.2.1
    have := hT.2.2.1
    exact ⟨⟨by omega, by omega⟩, ⟨by omega, by omega⟩⟩
  refine x_start okX5_goes rfl rfl rfl rfl ?_
  refine x_aload_0 dX5_goes_0 ?_
  refine x_aload_1 dX5_goes_1 ?_
  refine x_iload_2 dX5_goes_2 ?_
  refine x_iload_3 dX5_goes_3 ?_
  refine x_callV3 dX5_goes_4 rfl okX5_does q1296 q1214 q1215 (by first | assumption | (exact ClL.k0 (by assumption))) am_k5 rfl (C_X5_does hr hT ht hm ⟨by omega, by omega⟩ ⟨by omega, by omega⟩ (by omega) ⟨by omega, by omega⟩ hxy (fun h1 hf => (x_k1 ?_)))
  refine x_istore4 dX5_goes_7 rfl ?_
  have hr1 : RC L h1 c T S := hr.fr (fun a z0 z1 => hf a (by omega) (by omega))
  have hf1 : FrC h h1 c := fun a z => hf a (by omega) (by omega)
  refine x_iload4 dX5_goes_9 ?_
  refine x_iconst dX5_goes_11 ?_
  refine x_icmp_ne (tgt := 25) dX5_goes_12 rfl (by omega) (by omega) (fun c12 => ?_) (fun c12 => ?_)
  · refine x_iload4 dX5_goes_25 ?_
    refine x_if_le (tgt := 40) dX5_goes_27 rfl (by omega) (fun c27 => ?_) (fun c27 => ?_)
    · have eg : goR T S m off = S := by unfold goR; rw [if_neg c12, if_neg (by omega)]
      refine x_ret dX5_goes_40 rfl ?_
      exact k h1 (by rw [eg]; exact hr1) hf1
    · refine x_aload_0 dX5_goes_30 ?_
      refine x_aload_1 dX5_goes_31 ?_
      refine x_iload_2 dX5_goes_32 ?_
      refine x_iload4 dX5_goes_33 ?_
      refine x_callV3 dX5_goes_35 rfl okX5_steps q1298 q1243 q1244 (by first | assumption | (exact ClL.k0 (by assumption))) am_k5 rfl (C_X5_steps hr1 hI hb hT ht hm ⟨by omega, by omega⟩ (fun hcan h2 hr2 hf2 => (x_k1 ?_)) (fun hcan => (x_k1 ?_)))
      · have eg : goR T S m off = stepR S m (doesR T S m off) := by unfold goR; rw [if_neg c12, if_pos (show 0 < doesR T S m off by omega), if_pos hcan]
        refine x_istore5 dX5_goes_38 rfl ?_
        refine x_ret dX5_goes_40 rfl ?_
        exact k h2 (by rw [eg]; exact hr2) (hf1.tr hf2)
      · have eg : goR T S m off = S := by unfold goR; rw [if_neg c12, if_pos (show 0 < doesR T S m off by omega), if_neg hcan]
        refine x_istore5 dX5_goes_38 rfl ?_
        refine x_ret dX5_goes_40 rfl ?_
        exact k h1 (by rw [eg]; exact hr1) hf1
  · refine x_aload_0 dX5_goes_15 ?_
    refine x_iload_2 dX5_goes_16 ?_
    refine x_callV1 dX5_goes_17 rfl okX5_winds q1297 q1268 q1269 (by first | assumption | (exact ClL.k0 (by assumption))) am_k5 rfl (C_X5_winds hr1 hI hT hm (fun hcan h2 hr2 hf2 => (x_k1 ?_)) (fun hcan => (x_k1 ?_)))
    · have eg : goR T S m off = windR S m := by unfold goR; rw [if_pos c12, if_pos hcan]
      refine x_istore5 dX5_goes_20 rfl ?_
      refine x_goto (tgt := 40) dX5_goes_22 rfl ?_
      refine x_ret dX5_goes_40 rfl ?_
      exact k h2 (by rw [eg]; exact hr2) (hf1.tr hf2)
    · have eg : goR T S m off = S := by unfold goR; rw [if_pos c12, if_neg hcan]
      refine x_istore5 dX5_goes_20 rfl ?_
      refine x_goto (tgt := 40) dX5_goes_22 rfl ?_
      refine x_ret dX5_goes_40 rfl ?_
      exact k h1 (by rw [eg]; exact hr1) hf1
theorem x_for (N : Int) (P : Int → am_H → Prop) (X : Int → am_H → Prop) (hs : ∀ i h, 0 ≤ i → i ≤ N → P i h → (∀ h', i < N → P (i + 1) h' → X (i + 1) h') → X i h) : ∀ h, 0 ≤ N → P 0 h → X 0 h := by
  intro h h0 hP
  refine x_up1 N (fun i hh => 0 ≤ i → i ≤ N → P i hh → X i hh) (fun i hh ih a1 a2 a3 => ?_) 0 h (by omega) h0 hP
  exact hs i hh a1 a2 a3 fun h' a4 a5 => ih a4 h' (by omega) (by omega) a5
/-- the same, with a value along -/
theorem x_forA (N : Int) {A : Type} (P : Int → am_H → A → Prop) (X : Int → am_H → A → Prop) (hs : ∀ i h a, 0 ≤ i → i ≤ N → P i h a → (∀ h' a', i < N → P (i + 1) h' a' → X (i + 1) h' a') → X i h a) : ∀ h a, 0 ≤ N → P 0 h a → X 0 h a := by
  intro h a h0 hP
  refine x_up2 N (fun i hh a => 0 ≤ i → i ≤ N → P i hh a → X i hh a) (fun i hh a ih a1 a2 a3 => ?_) 0 h a (by omega) h0 hP
  exact hs i hh a a1 a2 a3 fun h' a' a4 a5 => ih a4 h' a' (by omega) (by omega) a5
theorem C_X5_minute (hr : RC L h c T S) (hI : RowI T S b q) (hb : b ≤ 90000 ∧ q ≤ 90000) (hT : TxtI T) (ht : TxL L t T)
    (k : ∀ h', RC L h' c T (minuteR T S) → FrC h h' c → Q (.inl []) L h') : am_C G mX5_minute (d + 425) [aR c, aR t] L h Q := by
  have kcl := hr.1
  have lm := ht.2.1
  have kl0 := lm.1
  have kt := ht.1
  have hM := hT.1
  have hmi := hI.2.2.2.2.2.2.1
  refine x_start okX5_minute rfl rfl rfl rfl ?_
  refine x_iconst dX5_minute_0 ?_
  refine x_istore_2 dX5_minute_1 rfl ?_
  refine x_for (tM T) (fun i hh => RC L hh c T (goN T S 0 i.toNat) ∧ FrC h hh c) (fun i hh => am_X G mX5_minute (d + 425) 2 [aR c, aR t, aI i] [] L hh Q) (fun i hh g0 g1 hP ih => ?_) h hM.1 ⟨hr, FrC.rf h c⟩
  obtain ⟨p1, p2⟩ := hP
  have hIn := hI.goN hT 0 i.toNat (by omega)
  have e7 : hh c 8 = rM S := by rw [p1.2.2.2.2.2.1, goN_M]
  refine x_iload_2 dX5_minute_2 ?_
  refine x_aload_1 dX5_minute_3 ?_
  refine x_getR dX5_minute_4 fl351_4 rfl (by first | (exact TxL.k0 (by assumption)) | (assumption)) (by rfl) ?_
  refine x_callV0 dX5_minute_7 rfl okJ5_size q525 q526 q527 (by first | assumption | (exact TxL.kl (by assumption))) am_k20 rfl (C_J5_size lm (x_k1 ?_))
  refine x_icmp_ge (tgt := 26) dX5_minute_10 rfl (by omega) (by omega) (fun c10 => ?_) (fun c10 => ?_)
  · refine x_aload_0 dX5_minute_26 ?_
    refine x_dup dX5_minute_27 rfl ?_
    refine x_getI_ dX5_minute_28 fl449_5 (by first | (exact ClL.k0 (by assumption)) | (assumption)) (fun r28 => ?_)
    refine x_iconst dX5_minute_31 ?_
    refine x_iadd dX5_minute_32 ?_
    rw [e7] at r28 ⊢
    refine x_putI_ dX5_minute_33 fl449_5 (by first | (exact ClL.k0 (by assumption)) | (assumption)) (by omega) ?_
    refine x_ret dX5_minute_36 rfl ?_
    have hi : i = tM T := by omega
    subst hi
    refine k _ ?_ (fun a ha => ?_)
    · obtain ⟨q1, q2, q3, q4, q5, q6, q7⟩ := p1
      refine ⟨q1, fun m z0 z1 => ?_, fun m z0 z1 => ?_, fun m j z0 z1 z2 z3 => ?_, ?_, ?_, ?_⟩
      · simp (disch := omega) only [am_st_o]
        exact q2 m z0 z1
      · simp (disch := omega) only [am_st_o]
        exact q3 m z0 z1
      · simp (disch := omega) only [am_st_o]
        exact q4 m j z0 z1 z2 z3
      · simp (disch := omega) only [am_st_i]
        exact q5
      · rw [am_st_s]
        show _ = rM (goN T S 0 (tM T).toNat) + 1
        rw [goN_M]
      · simp (disch := omega) only [am_st_i]
        exact q7
    · simp (disch := omega) only [am_st_o]
      exact p2 a ha
  · refine x_aload_0 dX5_minute_13 ?_
    refine x_aload_1 dX5_minute_14 ?_
    refine x_iload_2 dX5_minute_15 ?_
    refine x_iconst dX5_minute_16 ?_
    refine x_callV3 dX5_minute_17 rfl okX5_goes q1292 q1293 q1294 (by first | assumption | (exact ClL.k0 (by assumption))) am_k5 rfl (C_X5_goes p1 hIn ⟨by omega, by omega⟩ hT ht ⟨g0, by omega⟩ ⟨by omega, by omega⟩ (fun h2 hr2 hf2 => (x_k0 ?_)))
    refine x_iinc2 dX5_minute_20 rfl ?_
    refine x_goto (tgt := 2) dX5_minute_23 rfl ?_
    refine ih h2 (by omega) ⟨?_, p2.tr hf2⟩
    rw [show (i + 1).toNat = i.toNat + 1 by omega]
    rw [show i = ((i.toNat : Nat) : Int) by omega] at hr2
    rw [show ((i.toNat : Nat) : Int).toNat = i.toNat by omega] at hr2
    exact hr2
set_option maxHeartbeats 4000000 in
theorem C_X5_begins (hcl : ClL L c) (hT : TxtI T) (ht : TxL L t T)
    (k : ∀ h', RC L h' c T (begR T) → FrC h h' c → Q (.inl []) L h') : am_C G mX5_begins (d + 423) [aR c, aR t] L h Q := by
  have lm := ht.2.1
  have kl0 := lm.1
  have kt := ht.1
  have hM := hT.1
  have hlw := ht.2.2.2.2.2.2.2.2.2
  refine am_C_wf (fun wf => ?_)
  refine x_start okX5_begins rfl rfl rfl rfl ?_
  refine x_aload_0 dX5_begins_0 ?_
  refine x_iconst dX5_begins_1 ?_
  refine x_putI_ dX5_begins_2 fl447_5 (by first | (exact ClL.k0 (by assumption)) | (assumption)) (by omega) ?_
  refine x_aload_0 dX5_begins_5 ?_
  refine x_iconst dX5_begins_6 ?_
  refine x_putI_ dX5_begins_7 fl449_5 (by first | (exact ClL.k0 (by assumption)) | (assumption)) (by omega) ?_
  refine x_aload_0 dX5_begins_10 ?_
  refine x_iconst dX5_begins_11 ?_
  refine x_putI_ dX5_begins_12 fl452_5 (by first | (exact ClL.k0 (by assumption)) | (assumption)) (by omega) ?_
  refine x_iconst dX5_begins_15 ?_
  refine x_istore_2 dX5_begins_16 rfl ?_
  refine x_for 7 (fun i hh => FrC h hh c ∧ hh c 7 = 0 ∧ hh c 8 = 0 ∧ hh c 9 = 0 ∧ ∀ o, 0 ≤ o → o < i → hh (c + 3) o = 0 ∧ (o < tM T → hh (c + 1) o = tDX T o ∧ hh (c + 2) o = tDY T o ∧ hh (c + 4) o = lng T o)) (fun i hh => am_X G mX5_begins (d + 423) 17 [aR c, aR t, aI i] [] L hh Q) (fun i hh g0 g1 hP ih => ?_) _ (by omega) ⟨?_, ?_, ?_, ?_, fun o h0 h1 => by omega⟩
  · obtain ⟨p1, p2, p3, p4, p5⟩ := hP
    refine x_iload_2 dX5_begins_17 ?_
    refine x_bipush dX5_begins_18 rfl ?_
    refine x_icmp_ge (tgt := 125) dX5_begins_20 rfl (by omega) (by omega) (fun c20 => ?_) (fun c20 => ?_)
    · refine x_ret dX5_begins_125 rfl ?_
      have e7 : i = 7 := by omega
      subst e7
      exact k _ ⟨hcl, fun o h0 h1 => (p5 o h0 h1).1, fun o h0 h1 => (p5 o h0 (by omega)).2 h1, fun o j h0 h1 h2 h3 => absurd h3 (by show ¬ j < 0; omega), p2, p3, p4⟩ p1
    · refine x_aload_0 dX5_begins_23 ?_
      refine x_getR dX5_begins_24 fl435_5 rfl (by first | (exact ClL.k0 (by assumption)) | (assumption)) (by first | (exact ClL.f2 (by assumption)) | (assumption)) ?_
      refine x_iload_2 dX5_begins_27 ?_
      refine x_iconst dX5_begins_28 ?_
      refine x_iast_ dX5_begins_29 (by first | (exact ClL.k3 (by assumption)) | (assumption)) (by first | (exact ClL.r3 (by assumption) (by omega) (by omega)) | (omega)) (by omega) ?_
      refine x_iload_2 dX5_begins_30 ?_
      refine x_aload_1 dX5_begins_31 ?_
      refine x_getR dX5_begins_32 fl351_4 rfl (by first | (exact TxL.k0 (by assumption)) | (assumption)) (by rfl) ?_
      refine x_callV0 dX5_begins_35 rfl okJ5_size q525 q526 q527 (by first | assumption | (exact TxL.kl (by assumption))) am_k20 rfl (C_J5_size lm (x_k1 ?_))
      refine x_icmp_lt (tgt := 44) dX5_begins_38 rfl (by omega) (by omega) (fun c38 => ?_) (fun c38 => ?_)
      · obtain ⟨km, mx, my, -⟩ := ht.2.2.1 i g0 (by omega)
        obtain ⟨dx, -⟩ := hT.2.2.2.2.2.1 i g0 (by omega)
        unfold inT at dx
        have htw := hT.2.1
        have htd := hT.2.2.1
        rcases hlw with ⟨g3, g4⟩ | ⟨la, g3, g4⟩
        · have el : lng T i = 30 := by unfold lng; rw [g3]
          refine x_aload_0 dX5_begins_44 ?_
          refine x_getR dX5_begins_45 fl431_5 rfl (by first | (exact ClL.k0 (by assumption)) | (assumption)) (by first | (exact ClL.f0 (by assumption)) | (assumption)) ?_
          refine x_iload_2 dX5_begins_48 ?_
          refine x_aload_1 dX5_begins_49 ?_
          refine x_getR dX5_begins_50 fl351_4 rfl (by first | (exact TxL.k0 (by assumption)) | (assumption)) (by rfl) ?_
          refine x_iload_2 dX5_begins_53 ?_
          refine x_callV1 dX5_begins_54 rfl okJ5_get q529 q530 q531 (by first | assumption | (exact TxL.kl (by assumption))) am_k20 rfl (C_J5_get lm ⟨g0, by omega⟩ (x_k1 ?_))
          refine x_cast dX5_begins_57 q543 (by first | assumption | (exact ManL.k0 (by assumption))) am_k14 ?_
          refine x_getKI dX5_begins_60 fl988_14 (by first | (exact ManL.k0 (by assumption)) | (assumption)) (by exact mx) (fun r60 => ?_)
          refine x_iast_ dX5_begins_63 (by first | (exact ClL.k1 (by assumption)) | (assumption)) (by first | (exact ClL.r1 (by assumption) (by omega) (by omega)) | (omega)) (by omega) ?_
          refine x_aload_0 dX5_begins_64 ?_
          refine x_getR dX5_begins_65 fl433_5 rfl (by first | (exact ClL.k0 (by assumption)) | (assumption)) (by first | (exact ClL.f1 (by assumption)) | (assumption)) ?_
          refine x_iload_2 dX5_begins_68 ?_
          refine x_aload_1 dX5_begins_69 ?_
          refine x_getR dX5_begins_70 fl351_4 rfl (by first | (exact TxL.k0 (by assumption)) | (assumption)) (by rfl) ?_
          refine x_iload_2 dX5_begins_73 ?_
          refine x_callV1 dX5_begins_74 rfl okJ5_get q529 q530 q531 (by first | assumption | (exact TxL.kl (by assumption))) am_k20 rfl (C_J5_get lm ⟨g0, by omega⟩ (x_k1 ?_))
          refine x_cast dX5_begins_77 q543 (by first | assumption | (exact ManL.k0 (by assumption))) am_k14 ?_
          refine x_getKI dX5_begins_80 fl991_14 (by first | (exact ManL.k0 (by assumption)) | (assumption)) (by exact my) (fun r80 => ?_)
          refine x_iast_ dX5_begins_83 (by first | (exact ClL.k2 (by assumption)) | (assumption)) (by first | (exact ClL.r2 (by assumption) (by omega) (by omega)) | (omega)) (by omega) ?_
          refine x_aload_0 dX5_begins_84 ?_
          refine x_getR dX5_begins_85 fl439_5 rfl (by first | (exact ClL.k0 (by assumption)) | (assumption)) (by first | (exact ClL.f3 (by assumption)) | (assumption)) ?_
          refine x_iload_2 dX5_begins_88 ?_
          refine x_aload_1 dX5_begins_89 ?_
          refine x_getR dX5_begins_90 fl379_4 rfl (by first | (exact TxL.k0 (by assumption)) | (assumption)) (by exact g4) ?_
          refine x_ifnonnull (tgt := 101) dX5_begins_93 rfl (fun c93 => ?_) (fun c93 => ?_)
          · exact absurd rfl c93
          · refine x_bipush dX5_begins_96 rfl ?_
            refine x_goto (tgt := 118) dX5_begins_98 rfl ?_
            refine x_iast_ dX5_begins_118 (by first | (exact ClL.k4 (by assumption)) | (assumption)) (by first | (exact ClL.r4 (by assumption) (by omega) (by omega)) | (omega)) (by omega) ?_
            refine x_iinc2 dX5_begins_119 rfl ?_
            refine x_goto (tgt := 17) dX5_begins_122 rfl ?_
            refine ih _ (by omega) ⟨fun a ha => ?_, ?_, ?_, ?_, fun o h0 h1 => ?_⟩
            · simp (disch := omega) only [am_st_o]
              exact p1 a ha
            · simp (disch := omega) only [am_st_o]
              exact p2
            · simp (disch := omega) only [am_st_o]
              exact p3
            · simp (disch := omega) only [am_st_o]
              exact p4
            · by_cases e : o = i
              · subst e
                simp (disch := omega) only [am_st_o, am_st_s]
                refine ⟨trivial, fun _ => ⟨trivial, trivial, ?_⟩⟩
                rw [el]
              · have := p5 o h0 (by omega)
                simp (disch := omega) only [am_st_o, am_st_i]
                exact this
        · have hne : fF L t 11 ≠ 0 := by
            have := (wf.lo (a := fF L t 11) (by rw [g4.1]; decide)).1
            omega
          have z32 : rg32 0 := ⟨by decide, by decide⟩
          have lok := (hT.2.2.2.2.2.2.2 la g3).rg (env6_rg (a := tDX T i) (b := tDY T i) (f := i) ⟨by omega, by omega⟩ ⟨by omega, by omega⟩ z32 z32 z32 ⟨by omega, by omega⟩)
          have kl := g4.1
          have el : lng T i = (if la (env6 (tDX T i) (tDY T i) 0 0 0 i) < 60 then la (env6 (tDX T i) (tDY T i) 0 0 0 i) else 60) := by unfold lng; rw [g3]
          refine x_aload_0 dX5_begins_44 ?_
          refine x_getR dX5_begins_45 fl431_5 rfl (by first | (exact ClL.k0 (by assumption)) | (assumption)) (by first | (exact ClL.f0 (by assumption)) | (assumption)) ?_
          refine x_iload_2 dX5_begins_48 ?_
          refine x_aload_1 dX5_begins_49 ?_
          refine x_getR dX5_begins_50 fl351_4 rfl (by first | (exact TxL.k0 (by assumption)) | (assumption)) (by rfl) ?_
          refine x_iload_2 dX5_begins_53 ?_
          refine x_callV1 dX5_begins_54 rfl okJ5_get q529 q530 q531 (by first | assumption | (exact TxL.kl (by assumption))) am_k20 rfl (C_J5_get lm ⟨g0, by omega⟩ (x_k1 ?_))
          refine x_cast dX5_begins_57 q543 (by first | assumption | (exact ManL.k0 (by assumption))) am_k14 ?_
          refine x_getKI dX5_begins_60 fl988_14 (by first | (exact ManL.k0 (by assumption)) | (assumption)) (by exact mx) (fun r60 => ?_)
          refine x_iast_ dX5_begins_63 (by first | (exact ClL.k1 (by assumption)) | (assumption)) (by first | (exact ClL.r1 (by assumption) (by omega) (by omega)) | (omega)) (by omega) ?_
          refine x_aload_0 dX5_begins_64 ?_
          refine x_getR dX5_begins_65 fl433_5 rfl (by first | (exact ClL.k0 (by assumption)) | (assumption)) (by first | (exact ClL.f1 (by assumption)) | (assumption)) ?_
          refine x_iload_2 dX5_begins_68 ?_
          refine x_aload_1 dX5_begins_69 ?_
          refine x_getR dX5_begins_70 fl351_4 rfl (by first | (exact TxL.k0 (by assumption)) | (assumption)) (by rfl) ?_
          refine x_iload_2 dX5_begins_73 ?_
          refine x_callV1 dX5_begins_74 rfl okJ5_get q529 q530 q531 (by first | assumption | (exact TxL.kl (by assumption))) am_k20 rfl (C_J5_get lm ⟨g0, by omega⟩ (x_k1 ?_))
          refine x_cast dX5_begins_77 q543 (by first | assumption | (exact ManL.k0 (by assumption))) am_k14 ?_
          refine x_getKI dX5_begins_80 fl991_14 (by first | (exact ManL.k0 (by assumption)) | (assumption)) (by exact my) (fun r80 => ?_)
          refine x_iast_ dX5_begins_83 (by first | (exact ClL.k2 (by assumption)) | (assumption)) (by first | (exact ClL.r2 (by assumption) (by omega) (by omega)) | (omega)) (by omega) ?_
          refine x_aload_0 dX5_begins_84 ?_
          refine x_getR dX5_begins_85 fl439_5 rfl (by first | (exact ClL.k0 (by assumption)) | (assumption)) (by first | (exact ClL.f3 (by assumption)) | (assumption)) ?_
          refine x_iload_2 dX5_begins_88 ?_
          refine x_aload_1 dX5_begins_89 ?_
          refine x_getR dX5_begins_90 fl379_4 rfl (by first | (exact TxL.k0 (by assumption)) | (assumption)) (by rfl) ?_
          refine x_ifnonnull (tgt := 101) dX5_begins_93 rfl (fun c93 => ?_) (fun c93 => ?_)
          · refine x_bipush dX5_begins_101 rfl ?_
            refine x_aload_0 dX5_begins_103 ?_
            refine x_aload_1 dX5_begins_104 ?_
            refine x_getR dX5_begins_105 fl379_4 rfl (by first | (exact TxL.k0 (by assumption)) | (assumption)) (by rfl) ?_
            refine x_iload_2 dX5_begins_108 ?_
            refine x_iconst dX5_begins_109 ?_
            refine x_iconst dX5_begins_110 ?_
            refine x_iconst dX5_begins_111 ?_
            refine x_callV5 dX5_begins_112 rfl okX5_asks q544 q546 qs1 (by first | assumption | (exact ClL.k0 (by assumption))) am_k5 rfl (C_X5_asks hcl g4 ⟨g0, by omega⟩ (x := tDX T i) (y := tDY T i) (by simp (disch := omega) only [am_st_o, am_st_s]) (by simp (disch := omega) only [am_st_o, am_st_s]) ⟨by decide, by decide⟩ ⟨by decide, by decide⟩ ⟨by decide, by decide⟩ (fun h3 hf3 => (x_k1 ?_)))
            refine x_mmin dX5_begins_115 q568 q569 q135 q570 rfl (by omega) (by omega) ?_
            refine x_iast_ dX5_begins_118 (by first | (exact ClL.k4 (by assumption)) | (assumption)) (by first | (exact ClL.r4 (by assumption) (by omega) (by omega)) | (omega)) (by omega) ?_
            refine x_iinc2 dX5_begins_119 rfl ?_
            refine x_goto (tgt := 17) dX5_begins_122 rfl ?_
            refine ih _ (by omega) ⟨fun a ha => ?_, ?_, ?_, ?_, fun o h0 h1 => ?_⟩
            · simp (disch := omega) only [am_st_o]
              rw [hf3 a (by omega) (by omega)]
              simp (disch := omega) only [am_st_o]
              exact p1 a ha
            · simp (disch := omega) only [am_st_o]
              rw [hf3 c (by omega) (by omega)]
              simp (disch := omega) only [am_st_o]
              exact p2
            · simp (disch := omega) only [am_st_o]
              rw [hf3 c (by omega) (by omega)]
              simp (disch := omega) only [am_st_o]
              exact p3
            · simp (disch := omega) only [am_st_o]
              rw [hf3 c (by omega) (by omega)]
              simp (disch := omega) only [am_st_o]
              exact p4
            · by_cases e : o = i
              · subst e
                simp (disch := omega) only [am_st_o, am_st_s]
                rw [hf3 (c + 3) (by omega) (by omega), hf3 (c + 1) (by omega) (by omega), hf3 (c + 2) (by omega) (by omega)]
                simp (disch := omega) only [am_st_o, am_st_s, am_st_i]
                refine ⟨trivial, fun _ => ⟨trivial, trivial, ?_⟩⟩
                rw [el]
              · have := p5 o h0 (by omega)
                simp (disch := omega) only [am_st_o, am_st_i]
                rw [hf3 (c + 3) (by omega) (by omega), hf3 (c + 1) (by omega) (by omega), hf3 (c + 2) (by omega) (by omega), hf3 (c + 4) (by omega) (by omega)]
                simp (disch := omega) only [am_st_o, am_st_s, am_st_i]
                exact this
          · exact absurd c93 hne
      · refine x_goto (tgt := 119) dX5_begins_41 rfl ?_
        refine x_iinc2 dX5_begins_119 rfl ?_
        refine x_goto (tgt := 17) dX5_begins_122 rfl ?_
        refine ih _ (by omega) ⟨fun a ha => ?_, ?_, ?_, ?_, fun o h0 h1 => ?_⟩
        · simp (disch := omega) only [am_st_o]
          exact p1 a ha
        · simp (disch := omega) only [am_st_o]
          exact p2
        · simp (disch := omega) only [am_st_o]
          exact p3
        · simp (disch := omega) only [am_st_o]
          exact p4
        · rw [am_st_at]
          by_cases e : o = i
          · rw [if_pos ⟨rfl, e⟩]
            exact ⟨rfl, fun _ => by omega⟩
          · rw [if_neg (by omega)]
            have := p5 o h0 (by omega)
            simp (disch := omega) only [am_st_o]
            exact this
  · exact fun a ha => by simp (disch := omega) only [am_st_o]
  · simp (disch := omega) only [am_st_i, am_st_s]
  · simp (disch := omega) only [am_st_i, am_st_s]
  · simp (disch := omega) only [am_st_i, am_st_s]
end CLOTH6
