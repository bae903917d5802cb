/-! OPERATIONS: meet -/
set_option maxRecDepth 100000
section MEET
variable {G : am_G} {d : Nat} {L : am_L} {h h' : am_H} {Q : am_O → am_L → am_H → Prop} {x o s t : Int} {T : Txt} {S : Row} {b q : Int}
noncomputable def meetF (T : Txt) (S : Row) (m n : Int) : Nat → Nat → Int
  | 0, _ => -2
  | r + 1, k => by
    classical exact if rX (runR T S k) m = rX (runR T S k) n ∧ rY (runR T S k) m = rY (runR T S k) n then (k : Int) else meetF T S m n r (k + 1)
noncomputable def meetV (T : Txt) (S : Row) (m n : Int) : Int := by
  classical exact if (0 ≤ m ∧ m < tM T) ∧ (0 ≤ n ∧ n < tM T) ∧ m ≠ n then meetF T S m n 201 0 else -1
set_option maxHeartbeats 4000000 in
theorem C_X0_meet {m n : Int} (hC : CoT L h x t T S) (hT : TxtI T) (hI : RowI T S b q) (hb : b ≤ 80000 ∧ q ≤ 88500) (hm : rg32 m) (hn : rg32 n) (k : ∀ h', FrS h h' x → Q (.inl [aI (meetV T S m n)]) L h') : am_C G mX0_meet (d + 430) [aR x, aI m, aI n] L h Q := by
  have hK := hC.mk
  have htx := hC.tx
  have hht := hC.ht
  have hcl := hC.cl
  have htr := hK.trial
  refine x_start okX0_meet rfl rfl rfl rfl ?_
  refine x_aload_0 dX0_meet_0 ?_
  refine x_iload_1 dX0_meet_1 ?_
  refine x_iload_2 dX0_meet_2 ?_
  refine x_callV2 dX0_meet_3 rfl okX0_areTwo q1307 q1309 qs35 (by first | assumption | (exact MkL.k0 (by assumption))) am_k0 rfl (C_X0_areTwo hC hT hm hn (x_k1 ?_))
  refine x_if_ne (tgt := 11) dX0_meet_6 rfl (by split <;> omega) (fun c6 => ?_) (fun c6 => ?_)
  · have h2 : (0 ≤ m ∧ m < tM T) ∧ (0 ≤ n ∧ n < tM T) ∧ m ≠ n := by split at c6 <;> first | assumption | omega
    have eV : meetV T S m n = meetF T S m n 201 0 := by unfold meetV; rw [if_pos h2]
    refine x_aload_0 dX0_meet_11 ?_
    refine x_getR dX0_meet_12 fl579_0 rfl (by first | (exact MkL.k0 (by assumption)) | (assumption)) (by first | (exact MkL.v_trial (by assumption)) | (assumption)) ?_
    refine x_aload_0 dX0_meet_15 ?_
    refine x_getR dX0_meet_16 fl578_0 rfl (by first | (exact MkL.k0 (by assumption)) | (assumption)) (by first | (exact MkL.v_cloth (by assumption)) | (assumption)) ?_
    refine x_callV1 dX0_meet_19 rfl okX5_takes q1237 q1238 q1239 (by first | assumption | (exact ClL.k0 (by assumption))) am_k5 rfl (C_X5_takes hC.rc htr hI hT (by omega) (fun h1 hr1 hf1 => (x_k0 ?_)))
    refine x_iconst dX0_meet_22 ?_
    refine x_istore_3 dX0_meet_23 rfl ?_
    skip
    suffices H : ∀ (r i : Nat) (hh : am_H), r + i = 201 → RC L hh (x + 48) T (runR T S i) → FrS h hh x → meetV T S m n = meetF T S m n r i → am_X G mX0_meet (d + 430) 24 [aR x, aI m, aI n, aI i] [] L hh Q from H 201 0 h1 rfl hr1 hf1.trial eV
    intro r
    induction r with
    | zero =>
      intro i hh z1 z2 z3 z4
      refine x_iload_3 dX0_meet_24 ?_
      refine x_sipush dX0_meet_25 rfl ?_
      refine x_icmp_gt (tgt := 92) dX0_meet_28 rfl (by omega) (by omega) (fun c28 => ?_) (fun c28 => ?_)
      · refine x_bipush dX0_meet_92 rfl ?_
        refine x_iret dX0_meet_94 rfl ?_
        exact x_q1 z4.symm (k hh z3)
      · exfalso; omega
    | succ r ih =>
      intro i hh z1 z2 z3 z4
      have hIi := hI.run hT i
      have hht2 : hh x 3 = t := (hC.fr z3).ht
      obtain ⟨ex, ey, -⟩ := z2.2.2.1 m h2.1.1 h2.1.2
      obtain ⟨ix, iy, -⟩ := z2.2.2.1 n h2.2.1.1 h2.2.1.2
      have h7 := hT.1
      unfold meetF at z4
      refine x_iload_3 dX0_meet_24 ?_
      refine x_sipush dX0_meet_25 rfl ?_
      refine x_icmp_gt (tgt := 92) dX0_meet_28 rfl (by omega) (by omega) (fun c28 => ?_) (fun c28 => ?_)
      · exfalso; omega
      · refine x_aload_0 dX0_meet_31 ?_
        refine x_getR dX0_meet_32 fl579_0 rfl (by first | (exact MkL.k0 (by assumption)) | (assumption)) (by first | (exact MkL.v_trial (by assumption)) | (assumption)) ?_
        refine x_getR dX0_meet_35 fl432_5 rfl (by first | (exact ClL.k0 (by assumption)) | (assumption)) (by first | (exact ClL.f0 (by assumption)) | (assumption)) ?_
        refine x_iload_1 dX0_meet_38 ?_
        refine x_iald_ dX0_meet_39 (by first | (exact ClL.k1 (by assumption)) | (assumption)) (by first | (exact ClL.r1 (by assumption) (by omega) (by omega)) | (omega)) (fun r39 => ?_)
        simp (disch := omega) only [ex, ix] at r39 ⊢
        refine x_aload_0 dX0_meet_40 ?_
        refine x_getR dX0_meet_41 fl579_0 rfl (by first | (exact MkL.k0 (by assumption)) | (assumption)) (by first | (exact MkL.v_trial (by assumption)) | (assumption)) ?_
        refine x_getR dX0_meet_44 fl432_5 rfl (by first | (exact ClL.k0 (by assumption)) | (assumption)) (by first | (exact ClL.f0 (by assumption)) | (assumption)) ?_
        refine x_iload_2 dX0_meet_47 ?_
        refine x_iald_ dX0_meet_48 (by first | (exact ClL.k1 (by assumption)) | (assumption)) (by first | (exact ClL.r1 (by assumption) (by omega) (by omega)) | (omega)) (fun r48 => ?_)
        simp (disch := omega) only [ex, ix] at r48 ⊢
        refine x_icmp_ne (tgt := 75) dX0_meet_49 rfl (by omega) (by omega) (fun c49 => ?_) (fun c49 => ?_)
        · rw [if_neg (by omega)] at z4
          refine x_aload_0 dX0_meet_75 ?_
          refine x_getR dX0_meet_76 fl579_0 rfl (by first | (exact MkL.k0 (by assumption)) | (assumption)) (by first | (exact MkL.v_trial (by assumption)) | (assumption)) ?_
          refine x_aload_0 dX0_meet_79 ?_
          refine x_getW dX0_meet_80 fl574_0 rfl (by first | (exact MkL.k0 (by assumption)) | (assumption)) (by assumption) ?_
          refine x_callV1 dX0_meet_83 rfl okX5_minute q1288 q1289 q1290 (by first | assumption | (exact ClL.k0 (by assumption))) am_k5 rfl (C_X5_minute (d := d + 4) z2 hIi ⟨by omega, by omega⟩ hT htx (fun h3 hr3 hf3 => (x_k0 ?_)))
          refine x_iinc3 dX0_meet_86 rfl ?_
          refine x_goto (tgt := 24) dX0_meet_89 rfl ?_
          exact ih (i + 1) h3 (by omega) hr3 (z3.tr hf3.trial) z4
        · refine x_aload_0 dX0_meet_52 ?_
          refine x_getR dX0_meet_53 fl579_0 rfl (by first | (exact MkL.k0 (by assumption)) | (assumption)) (by first | (exact MkL.v_trial (by assumption)) | (assumption)) ?_
          refine x_getR dX0_meet_56 fl434_5 rfl (by first | (exact ClL.k0 (by assumption)) | (assumption)) (by first | (exact ClL.f1 (by assumption)) | (assumption)) ?_
          refine x_iload_1 dX0_meet_59 ?_
          refine x_iald_ dX0_meet_60 (by first | (exact ClL.k2 (by assumption)) | (assumption)) (by first | (exact ClL.r2 (by assumption) (by omega) (by omega)) | (omega)) (fun r60 => ?_)
          simp (disch := omega) only [ey, iy] at r60 ⊢
          refine x_aload_0 dX0_meet_61 ?_
          refine x_getR dX0_meet_62 fl579_0 rfl (by first | (exact MkL.k0 (by assumption)) | (assumption)) (by first | (exact MkL.v_trial (by assumption)) | (assumption)) ?_
          refine x_getR dX0_meet_65 fl434_5 rfl (by first | (exact ClL.k0 (by assumption)) | (assumption)) (by first | (exact ClL.f1 (by assumption)) | (assumption)) ?_
          refine x_iload_2 dX0_meet_68 ?_
          refine x_iald_ dX0_meet_69 (by first | (exact ClL.k2 (by assumption)) | (assumption)) (by first | (exact ClL.r2 (by assumption) (by omega) (by omega)) | (omega)) (fun r69 => ?_)
          simp (disch := omega) only [ey, iy] at r69 ⊢
          refine x_icmp_ne (tgt := 75) dX0_meet_70 rfl (by omega) (by omega) (fun c70 => ?_) (fun c70 => ?_)
          · rw [if_neg (by omega)] at z4
            refine x_aload_0 dX0_meet_75 ?_
            refine x_getR dX0_meet_76 fl579_0 rfl (by first | (exact MkL.k0 (by assumption)) | (assumption)) (by first | (exact MkL.v_trial (by assumption)) | (assumption)) ?_
            refine x_aload_0 dX0_meet_79 ?_
            refine x_getW dX0_meet_80 fl574_0 rfl (by first | (exact MkL.k0 (by assumption)) | (assumption)) (by assumption) ?_
            refine x_callV1 dX0_meet_83 rfl okX5_minute q1288 q1289 q1290 (by first | assumption | (exact ClL.k0 (by assumption))) am_k5 rfl (C_X5_minute (d := d + 4) z2 hIi ⟨by omega, by omega⟩ hT htx (fun h3 hr3 hf3 => (x_k0 ?_)))
            refine x_iinc3 dX0_meet_86 rfl ?_
            refine x_goto (tgt := 24) dX0_meet_89 rfl ?_
            exact ih (i + 1) h3 (by omega) hr3 (z3.tr hf3.trial) z4
          · refine x_iload_3 dX0_meet_73 ?_
            refine x_iret dX0_meet_74 rfl ?_
            refine x_q1 ?_ (k hh z3)
            rw [z4, if_pos ⟨by omega, by omega⟩]
  · refine x_iconst dX0_meet_9 ?_
    refine x_iret dX0_meet_10 rfl ?_
    refine x_q1 ?_ (k h (FrS.rf h x))
    unfold meetV
    rw [if_neg (by split at c6 <;> omega)]
set_option maxHeartbeats 4000000 in
theorem C_X13_meet {m n : Int} (hC : TwT L h o s T S) (hT : TxtI T) (hI : RowI T S b q) (hb : b ≤ 80000 ∧ q ≤ 88500) (hm : rg32 m) (hn : rg32 n) (k : ∀ h', FrW h h' o → Q (.inl [aI (meetV T S m n)]) L h') : am_C G mX13_meet (d + 12) [aR o, aI m, aI n] L h Q := by
  have hM := hC.1
  have hL := hM.1
  refine x_start okX13_meet rfl rfl rfl rfl ?_
  refine x_aload_0 dX13_meet_0 ?_
  refine x_iload_1 dX13_meet_1 ?_
  refine x_iload_2 dX13_meet_2 ?_
  refine x_callV2 dX13_meet_3 rfl okX13_areTwo q2034 q2036 qs93 (by first | assumption | (exact MdL.k0 (by assumption))) am_k13 rfl (C_X13_areTwo hM hT hm hn (x_k1 ?_))
  refine x_if_ne (tgt := 11) dX13_meet_6 rfl (by split <;> omega) (fun c6 => ?_) (fun c6 => ?_)
  · have h2 : (0 ≤ m ∧ m < tM T) ∧ (0 ≤ n ∧ n < tM T) ∧ m ≠ n := by split at c6 <;> first | assumption | omega
    have eV : meetV T S m n = meetF T S m n 201 0 := by unfold meetV; rw [if_pos h2]
    refine x_aload_0 dX13_meet_11 ?_
    refine x_callV0 dX13_meet_12 rfl okX13_copies q1934 q1936 qs81 (by first | assumption | (exact MdL.k0 (by assumption))) am_k13 rfl (C_X13_copiesR hL hC.2 hI hT (fun h1 e1 f1 e2 e3 => (x_k0 ?_)))
    refine x_iconst dX13_meet_15 ?_
    refine x_istore_3 dX13_meet_16 rfl ?_
    skip
    suffices H : ∀ (r i : Nat) (hh : am_H), r + i = 201 → RwF (hh (o + 38)) (tM T) (runR T S i) → (∀ m, 0 ≤ m → m < 7 → hh (o + 39) m = 0) → FrW h hh o → meetV T S m n = meetF T S m n r i → am_X G mX13_meet (d + 12) 17 [aR o, aI m, aI n, aI i] [] L hh Q from H 201 0 h1 rfl e2 e3 f1 eV
    intro r
    induction r with
    | zero =>
      intro i hh z1 z2 zl z3 z4
      refine x_iload_3 dX13_meet_17 ?_
      refine x_sipush dX13_meet_18 rfl ?_
      refine x_icmp_gt (tgt := 72) dX13_meet_21 rfl (by omega) (by omega) (fun c21 => ?_) (fun c21 => ?_)
      · refine x_bipush dX13_meet_72 rfl ?_
        refine x_iret dX13_meet_74 rfl ?_
        exact x_q1 z4.symm (k hh z3)
      · exfalso; omega
    | succ r ih =>
      intro i hh z1 z2 zl z3 z4
      have hIi := hI.run hT i
      obtain ⟨ex, ey⟩ := z2.2.1 m h2.1.1 h2.1.2
      obtain ⟨ix, iy⟩ := z2.2.1 n h2.2.1.1 h2.2.1.2
      have h7 := hT.1
      have bMi := hIi.2.2.2.2.2.2.1
      unfold meetF at z4
      refine x_iload_3 dX13_meet_17 ?_
      refine x_sipush dX13_meet_18 rfl ?_
      refine x_icmp_gt (tgt := 72) dX13_meet_21 rfl (by omega) (by omega) (fun c21 => ?_) (fun c21 => ?_)
      · exfalso; omega
      · refine x_aload_0 dX13_meet_24 ?_
        refine x_getR dX13_meet_25 fl1630_13 rfl (by first | (exact MdL.k0 (by assumption)) | (assumption)) (by first | (exact MdL.v_row (by assumption)) | (assumption)) ?_
        refine x_iload_1 dX13_meet_28 ?_
        refine x_iald_ dX13_meet_29 (by first | (exact MdL.k_row (by assumption)) | (assumption)) (by first | (exact MdL.x_row (by assumption) (by omega) (by omega)) | (omega)) (fun r29 => ?_)
        simp (disch := omega) only [ex, ix, ey, iy] at r29 ⊢
        refine x_aload_0 dX13_meet_30 ?_
        refine x_getR dX13_meet_31 fl1630_13 rfl (by first | (exact MdL.k0 (by assumption)) | (assumption)) (by first | (exact MdL.v_row (by assumption)) | (assumption)) ?_
        refine x_iload_2 dX13_meet_34 ?_
        refine x_iald_ dX13_meet_35 (by first | (exact MdL.k_row (by assumption)) | (assumption)) (by first | (exact MdL.x_row (by assumption) (by omega) (by omega)) | (omega)) (fun r35 => ?_)
        simp (disch := omega) only [ex, ix, ey, iy] at r35 ⊢
        refine x_icmp_ne (tgt := 62) dX13_meet_36 rfl (by omega) (by omega) (fun c36 => ?_) (fun c36 => ?_)
        · rw [if_neg (by omega)] at z4
          refine x_aload_0 dX13_meet_62 ?_
          refine x_callV0 dX13_meet_63 rfl okX13_minuteGoes q2022 q2024 qs92 (by first | assumption | (exact MdL.k0 (by assumption))) am_k13 rfl (C_X13_minuteGoes (lt := fun _ => 0) (hM.fr z3) hT z2 hIi ⟨by omega, by omega⟩ (fun m z0 z1 => zl m z0 (by omega)) (fun _ => by omega) (fun h3 r3 f3 => (x_k0 ?_)))
          refine x_iinc3 dX13_meet_66 rfl ?_
          refine x_goto (tgt := 17) dX13_meet_69 rfl ?_
          refine ih (i + 1) h3 (by omega) ?_ (fun m y0 y1 => by rw [f3.later]; exact zl m y0 y1) (z3.tr f3.w) z4
          rw [goL_0 bMi.1] at r3
          exact r3
        · refine x_aload_0 dX13_meet_39 ?_
          refine x_getR dX13_meet_40 fl1630_13 rfl (by first | (exact MdL.k0 (by assumption)) | (assumption)) (by first | (exact MdL.v_row (by assumption)) | (assumption)) ?_
          refine x_bipush dX13_meet_43 rfl ?_
          refine x_iload_1 dX13_meet_45 ?_
          refine x_iadd dX13_meet_46 ?_
          refine x_iald_ dX13_meet_47 (by first | (exact MdL.k_row (by assumption)) | (assumption)) (by first | (exact MdL.x_row (by assumption) (by omega) (by omega)) | (omega)) (fun r47 => ?_)
          simp (disch := omega) only [ex, ix, ey, iy] at r47 ⊢
          refine x_aload_0 dX13_meet_48 ?_
          refine x_getR dX13_meet_49 fl1630_13 rfl (by first | (exact MdL.k0 (by assumption)) | (assumption)) (by first | (exact MdL.v_row (by assumption)) | (assumption)) ?_
          refine x_bipush dX13_meet_52 rfl ?_
          refine x_iload_2 dX13_meet_54 ?_
          refine x_iadd dX13_meet_55 ?_
          refine x_iald_ dX13_meet_56 (by first | (exact MdL.k_row (by assumption)) | (assumption)) (by first | (exact MdL.x_row (by assumption) (by omega) (by omega)) | (omega)) (fun r56 => ?_)
          simp (disch := omega) only [ex, ix, ey, iy] at r56 ⊢
          refine x_icmp_ne (tgt := 62) dX13_meet_57 rfl (by omega) (by omega) (fun c57 => ?_) (fun c57 => ?_)
          · rw [if_neg (by omega)] at z4
            refine x_aload_0 dX13_meet_62 ?_
            refine x_callV0 dX13_meet_63 rfl okX13_minuteGoes q2022 q2024 qs92 (by first | assumption | (exact MdL.k0 (by assumption))) am_k13 rfl (C_X13_minuteGoes (lt := fun _ => 0) (hM.fr z3) hT z2 hIi ⟨by omega, by omega⟩ (fun m z0 z1 => zl m z0 (by omega)) (fun _ => by omega) (fun h3 r3 f3 => (x_k0 ?_)))
            refine x_iinc3 dX13_meet_66 rfl ?_
            refine x_goto (tgt := 17) dX13_meet_69 rfl ?_
            refine ih (i + 1) h3 (by omega) ?_ (fun m y0 y1 => by rw [f3.later]; exact zl m y0 y1) (z3.tr f3.w) z4
            rw [goL_0 bMi.1] at r3
            exact r3
          · refine x_iload_3 dX13_meet_60 ?_
            refine x_iret dX13_meet_61 rfl ?_
            refine x_q1 ?_ (k hh z3)
            rw [z4, if_pos ⟨by omega, by omega⟩]
  · refine x_iconst dX13_meet_9 ?_
    refine x_iret dX13_meet_10 rfl ?_
    refine x_q1 ?_ (k h (FrW.rf h o))
    unfold meetV
    rw [if_neg (by split at c6 <;> omega)]
end MEET
