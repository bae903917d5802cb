/-! CLOTH: does, goes, minute, begins; what they keep -/
set_option maxRecDepth 100000
section CLOTH5
variable {G : am_G} {d : Nat} {L : am_L} {h : am_H} {Q : am_O → am_L → am_H → Prop} {c t b q : Int} {T : Txt} {S : Row}
theorem doesR_bd (hT : TxtI T) {m : Int} (hm : 0 ≤ m ∧ m < tM T) (off : Int) : 0 ≤ doesR T S m off ∧ doesR T S m off < 6 := by
  unfold doesR
  match e : tG T m with
  | none => simp only; omega
  | some la =>
    simp only
    split
    · omega
    · omega
theorem lotR_rg (a b n : Int) : rg32 (lotR a b n) := bRem_rg _ _
theorem x_cast {M : am_M} {pc i k N : Nat} {ls rest : List AV} {a : Int} {nm : String} {T0 : u_T} (hd : decode M.2.1 pc = .ok (.checkcast i, 3)) (hw : Cond.classLink M.1.cls i nm ∈ lw_all) (hk : kd L a = k) (hc : am_Cls k nm T0 N) (kk : am_X G M d (pc + 3) ls (aR a :: rest) L h Q) : am_X G M d pc ls (aR a :: rest) L h Q := by
  refine am_lift (fun p e R s m args below meth c S H locs cells slots lsR Qf hR hL w => ?_) kk
  rw [List.map_cons, am_cvR G (hR.lo (by have := hc.1; omega))] at w ⊢
  have hK := S.2.2.2.2.2.2.2.2.1
  exact va_castS S.1 S.2.1 S.2.2.2.2.1 (S.2.2.2.2.2.1 _ hw) (hK.1 k _ hc.2.1).2 (am_recv hK hR hk hc) hd w
theorem C_X5_does {m off : Int} (hr : RC L h c T S) (hT : TxtI T) (ht : TxL L t T) (hm : 0 ≤ m ∧ m < tM T) (ho : rg32 off) (hmi : rg32 (rM S - off)) (hn : 0 ≤ rN S m ∧ rN S m ≤ 60) (hx8 : rg32 (8 * (rM S - off) + m)) (hxy : rg32 (rX S m) ∧ rg32 (rY S m))
    (k : ∀ h', (∀ a, a ≠ c + 29 → a ≠ c + 30 → h' a = h a) → Q (.inl [aI (doesR T S m off)]) L h') : am_C G mX5_does (d + 423) [aR c, aR t, aI m, aI off] L h Q := by
  have hr0 := hr
  obtain ⟨hcl, rn, rx, rk, r7, r8, r9⟩ := hr
  obtain ⟨kt, lm, hma, -, -, -, sd, -, -, -⟩ := ht
  obtain ⟨km, -, -, -, -, -, -, hg⟩ := hma m hm.1 hm.2
  have hm7 : m < 7 := by have := hT.1; omega
  have en := rn m hm.1 hm7
  obtain ⟨ex, ey, el⟩ := rx m hm.1 hm.2
  have bl := lng_bd hT m
  have kl0 := lm.1
  have b01 := bt_01 (rL S) m
  refine am_C_wf (fun wf => ?_)
  refine x_start okX5_does rfl rfl rfl rfl ?_
  rcases hg with ⟨g0, g1⟩ | ⟨la, g0, g1⟩
  · have e0 : doesR T S m off = 0 := by unfold doesR; rw [g0]
    refine x_aload_1 dX5_does_0 ?_
    refine x_getR dX5_does_1 fl351_4 rfl (by first | (exact TxL.k0 (by assumption)) | (assumption)) (by rfl) ?_
    refine x_iload_2 dX5_does_4 ?_
    refine x_callV1 dX5_does_5 rfl okJ5_get q529 q530 q531 (by first | assumption | (exact TxL.kl (by assumption))) am_k20 rfl (C_J5_get lm hm (x_k1 ?_))
    refine x_cast dX5_does_8 q543 (by first | assumption | (exact ManL.k0 (by assumption))) am_k14 ?_
    refine x_getR dX5_does_11 fl998_14 rfl (by first | (exact ManL.k0 (by assumption)) | (assumption)) (by exact g1) ?_
    refine x_astore4 dX5_does_14 rfl ?_
    refine x_aload4 dX5_does_16 ?_
    refine x_ifnull (tgt := 29) dX5_does_18 rfl (fun c18 => ?_) (fun c18 => ?_)
    · refine x_iconst dX5_does_29 ?_
      refine x_iret dX5_does_30 rfl ?_
      refine x_q1 e0.symm (k h (fun _ _ _ => rfl))
    · exact absurd rfl c18
  · have hne : fF L (manA L t m) 7 ≠ 0 := by
      have := (wf.lo (a := fF L (manA L t m) 7) (by rw [g1.1]; decide)).1
      omega
    have lok : lamOk la := (hT.2.2.2.2.2.1 m hm.1 hm.2).2.2.2.2 la g0
    have kl := g1.1
    refine x_aload_1 dX5_does_0 ?_
    refine x_getR dX5_does_1 fl351_4 rfl (by first | (exact TxL.k0 (by assumption)) | (assumption)) (by rfl) ?_
    refine x_iload_2 dX5_does_4 ?_
    refine x_callV1 dX5_does_5 rfl okJ5_get q529 q530 q531 (by first | assumption | (exact TxL.kl (by assumption))) am_k20 rfl (C_J5_get lm hm (x_k1 ?_))
    refine x_cast dX5_does_8 q543 (by first | assumption | (exact ManL.k0 (by assumption))) am_k14 ?_
    refine x_getR dX5_does_11 fl998_14 rfl (by first | (exact ManL.k0 (by assumption)) | (assumption)) (by rfl) ?_
    refine x_astore4 dX5_does_14 rfl ?_
    refine x_aload4 dX5_does_16 ?_
    refine x_ifnull (tgt := 29) dX5_does_18 rfl (fun c18 => ?_) (fun c18 => ?_)
    · rcases b01 with b0 | b0
      · omega
      · have e0 : doesR T S m off = 0 := by unfold doesR; rw [g0]; simp only; rw [if_pos b0]
        refine x_iconst dX5_does_29 ?_
        refine x_iret dX5_does_30 rfl ?_
        refine x_q1 e0.symm (k h (fun _ _ _ => rfl))
    · refine x_aload_0 dX5_does_21 ?_
      refine x_iload_2 dX5_does_22 ?_
      refine x_callV1 dX5_does_23 rfl okX5_isLost q1217 q1207 q1208 (by first | assumption | (exact ClL.k0 (by assumption))) am_k5 rfl (C_X5_isLost hr0 ⟨hm.1, hm7⟩ (x_k1 ?_))
      refine x_if_eq (tgt := 31) dX5_does_26 rfl (by omega) (fun c26 => ?_) (fun c26 => ?_)
      · refine x_aload_0 dX5_does_31 ?_
        refine x_aload4 dX5_does_32 ?_
        refine x_iload_2 dX5_does_34 ?_
        refine x_aload_0 dX5_does_35 ?_
        refine x_getI_ dX5_does_36 fl449_5 (by first | (exact ClL.k0 (by assumption)) | (assumption)) (fun r36 => ?_)
        rw [r8] at r36 ⊢
        refine x_iload_3 dX5_does_39 ?_
        refine x_isub dX5_does_40 ?_
        refine x_aload_0 dX5_does_41 ?_
        refine x_getR dX5_does_42 fl439_5 rfl (by first | (exact ClL.k0 (by assumption)) | (assumption)) (by first | (exact ClL.f3 (by assumption)) | (assumption)) ?_
        refine x_iload_2 dX5_does_45 ?_
        refine x_iald_ dX5_does_46 (by first | (exact ClL.k4 (by assumption)) | (assumption)) (by first | (exact ClL.r4 (by assumption) (by omega) (by omega)) | (omega)) (fun r46 => ?_)
        rw [el] at r46 ⊢
        refine x_aload_0 dX5_does_47 ?_
        refine x_getR dX5_does_48 fl435_5 rfl (by first | (exact ClL.k0 (by assumption)) | (assumption)) (by first | (exact ClL.f2 (by assumption)) | (assumption)) ?_
        refine x_iload_2 dX5_does_51 ?_
        refine x_iald_ dX5_does_52 (by first | (exact ClL.k3 (by assumption)) | (assumption)) (by first | (exact ClL.r3 (by assumption) (by omega) (by omega)) | (omega)) (fun r52 => ?_)
        rw [en] at r52 ⊢
        refine x_isub dX5_does_53 ?_
        refine x_aload_1 dX5_does_54 ?_
        refine x_getKI dX5_does_55 fl377_4 (by first | (exact TxL.k0 (by assumption)) | (assumption)) (by first | (exact TxL.vS (by assumption)) | (assumption)) (fun r55 => ?_)
        refine x_bipush dX5_does_58 rfl ?_
        refine x_aload_0 dX5_does_60 ?_
        refine x_getI_ dX5_does_61 fl449_5 (by first | (exact ClL.k0 (by assumption)) | (assumption)) (fun r61 => ?_)
        rw [r8] at r61 ⊢
        refine x_iload_3 dX5_does_64 ?_
        refine x_isub dX5_does_65 ?_
        refine x_imul dX5_does_66 ?_
        refine x_iload_2 dX5_does_67 ?_
        refine x_iadd dX5_does_68 ?_
        refine x_bipush dX5_does_69 rfl ?_
        show am_X G mX5_does _ 71 _ [aI 100, aI (8 * (rM S - off) + m), aI (tSeed T), aI (lng T m - rN S m), aI (rM S - off), aI m, aR (fF L (manA L t m) 7), aR c] _ _ _
        refine x_callSN3 dX5_does_71 rfl okX0_lot q1218 q1219 rfl (C_X0_lot ⟨by decide, by decide⟩ (by decide) (x_k1 ?_))
        refine x_callV5 dX5_does_74 rfl okX5_asks q544 q546 qs1 (by first | assumption | (exact ClL.k0 (by assumption))) am_k5 rfl (C_X5_asks hcl g1 ⟨hm.1, hm7⟩ ex ey hmi ⟨by omega, by omega⟩ (lotR_rg _ _ _) (fun hh hfr => (x_k1 ?_)))
        refine x_bipush dX5_does_77 rfl ?_
        refine x_irem dX5_does_79 (by omega) (by omega) ?_
        refine x_iret dX5_does_80 rfl ?_
        have e0 : doesR T S m off = bRem (la (env6 (rX S m) (rY S m) (rM S - off) (lng T m - rN S m) (lotR (tSeed T) (8 * (rM S - off) + m) 100) m)) 6 := by
          unfold doesR
          rw [g0, bRem_nn (lok.rg (env6_rg hxy.1 hxy.2 hmi ⟨by omega, by omega⟩ (lotR_rg _ _ _) ⟨by omega, by omega⟩)) ⟨by decide, by decide⟩]
          simp only
          rw [if_neg (by omega)]
        exact x_q1 e0.symm (k hh hfr)
      · rcases b01 with b0 | b0
        · omega
        · have e0 : doesR T S m off = 0 := by unfold doesR; rw [g0]; simp only; rw [if_pos b0]
          refine x_iconst dX5_does_29 ?_
          refine x_iret dX5_does_30 rfl ?_
          refine x_q1 e0.symm (k h (fun _ _ _ => rfl))
end CLOTH5
