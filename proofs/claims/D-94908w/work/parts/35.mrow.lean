/-! THE TWIN: begins, keepsRow, copies -/
set_option maxRecDepth 100000
section MROW
variable {G : am_G} {d : Nat} {L : am_L} {h : am_H} {Q : am_O → am_L → am_H → Prop} {o s : Int} {T : Txt} {S : Row} {b q : Int}
theorem C_X13_begins (hM : MdT L h o s T) (hT : TxtI T) (k : ∀ h', (∀ a, a ≠ (o + 38) → a ≠ (o + 39) → h' a = h a) → RwF (h' (o + 38)) (tM T) (begR T) → (∀ m, 0 ≤ m → m < 7 → h' (o + 39) m = 0) → Q (.inl []) L h') : am_C G mX13_begins (d + 1) [aR o] L h Q := by
  obtain ⟨hL, hs, hlv, -, -, -, -, -, hdo, -⟩ := hM
  refine x_start okX13_begins rfl rfl rfl rfl ?_
  refine x_iconst dX13_begins_0 ?_
  refine x_istore_1 dX13_begins_1 rfl ?_
  skip
  refine x_for 30 (fun i hh => (∀ a, a ≠ (o + 38) → hh a = h a) ∧ ∀ j, 0 ≤ j → j < i → hh (o + 38) j = 0) (fun i hh => am_X G mX13_begins (d + 1) 2 [aR o, aI i] [] L hh Q) (fun i hh g0 g1 hP ih => ?_) h (by omega) ⟨fun _ _ => rfl, fun j z0 z1 => by omega⟩
  obtain ⟨p1, p2⟩ := hP
  refine x_iload_1 dX13_begins_2 ?_
  refine x_bipush dX13_begins_3 rfl ?_
  refine x_icmp_ge (tgt := 21) dX13_begins_5 rfl (by omega) (by omega) (fun c5 => ?_) (fun c5 => ?_)
  · refine x_iconst dX13_begins_21 ?_
    refine x_istore_1 dX13_begins_22 rfl ?_
    have e30 : i = 30 := by omega
    subst e30
    refine x_for 7 (fun i h2 => (∀ a, a ≠ (o + 38) → a ≠ (o + 39) → h2 a = h a) ∧ (∀ j, 14 ≤ j → j < 30 → h2 (o + 38) j = 0) ∧ ∀ m, 0 ≤ m → m < i → h2 (o + 39) m = 0 ∧ (m < tM T → h2 (o + 38) m = tDX T m ∧ h2 (o + 38) (7 + m) = tDY T m)) (fun i hh => am_X G mX13_begins (d + 1) 23 [aR o, aI i] [] L hh Q) (fun i h2 g0 g1 hP ih => ?_) hh (by omega) ⟨fun a ha _ => p1 a ha, fun j z0 z1 => p2 j (by omega) z1, fun j z0 z1 => by omega⟩
    obtain ⟨u1, u2, u3⟩ := hP
    have hlv2 : h2 o 18 = s := by rw [u1 o (by omega) (by omega)]; exact hlv
    refine x_iload_1 dX13_begins_23 ?_
    refine x_bipush dX13_begins_24 rfl ?_
    refine x_icmp_ge (tgt := 85) dX13_begins_26 rfl (by omega) (by omega) (fun c26 => ?_) (fun c26 => ?_)
    · refine x_ret dX13_begins_85 rfl ?_
      have e7 : i = 7 := by omega
      subst e7
      refine k _ u1 ⟨fun m z0 z1 => ⟨u2 _ (by omega) (by omega), ?_⟩, fun m z0 z1 => ?_, fun m j z0 z1 z2 z3 => absurd z3 (by show ¬ j < 0; omega), u2 _ (by omega) (by omega), u2 _ (by omega) (by omega)⟩ (fun m z0 z1 => (u3 m z0 z1).1)
      · rw [u2 _ (by omega) (by omega)]
        exact (bt_0 ⟨z0, z1⟩).symm
      · have h7 := hT.1
        exact (u3 m z0 (by omega)).2 z1
    · refine x_aload_0 dX13_begins_29 ?_
      refine x_getR dX13_begins_30 fl1630_13 rfl (by first | (exact MdL.k0 (by assumption)) | (assumption)) (by first | (exact MdL.v_row (by assumption)) | (assumption)) ?_
      refine x_iload_1 dX13_begins_33 ?_
      refine x_aload_0 dX13_begins_34 ?_
      refine x_getR dX13_begins_35 fl1599_13 rfl (by first | (exact MdL.k0 (by assumption)) | (assumption)) (by first | (exact MdL.v_doorX (by assumption)) | (assumption)) ?_
      refine x_bipush dX13_begins_38 rfl ?_
      refine x_aload_0 dX13_begins_40 ?_
      refine x_getI_ dX13_begins_41 fl1592_13 (by first | (exact MdL.k0 (by assumption)) | (assumption)) (fun r41 => ?_)
      rw [hlv2] at r41 ⊢
      refine x_imul dX13_begins_44 ?_
      refine x_iload_1 dX13_begins_45 ?_
      refine x_iadd dX13_begins_46 ?_
      refine x_iald_ dX13_begins_47 (by first | (exact MdL.k_doorX (by assumption)) | (assumption)) (by first | (exact MdL.x_doorX (by assumption) (by omega) (by omega)) | (omega)) (fun r47 => ?_)
      refine x_iast_ dX13_begins_48 (by first | (exact MdL.k_row (by assumption)) | (assumption)) (by first | (exact MdL.x_row (by assumption) (by omega) (by omega)) | (omega)) (by omega) ?_
      refine x_aload_0 dX13_begins_49 ?_
      refine x_getR dX13_begins_50 fl1630_13 rfl (by first | (exact MdL.k0 (by assumption)) | (assumption)) (by first | (exact MdL.v_row (by assumption)) | (assumption)) ?_
      refine x_bipush dX13_begins_53 rfl ?_
      refine x_iload_1 dX13_begins_55 ?_
      refine x_iadd dX13_begins_56 ?_
      refine x_aload_0 dX13_begins_57 ?_
      refine x_getR dX13_begins_58 fl1600_13 rfl (by first | (exact MdL.k0 (by assumption)) | (assumption)) (by first | (exact MdL.v_doorY (by assumption)) | (assumption)) ?_
      refine x_bipush dX13_begins_61 rfl ?_
      refine x_aload_0 dX13_begins_63 ?_
      refine x_getI_ dX13_begins_64 fl1592_13 (by first | (exact MdL.k0 (by assumption)) | (assumption)) (fun r64 => ?_)
      simp (disch := omega) only [am_st_o] at r64 ⊢
      rw [hlv2] at r64 ⊢
      refine x_imul dX13_begins_67 ?_
      refine x_iload_1 dX13_begins_68 ?_
      refine x_iadd dX13_begins_69 ?_
      refine x_iald_ dX13_begins_70 (by first | (exact MdL.k_doorY (by assumption)) | (assumption)) (by first | (exact MdL.x_doorY (by assumption) (by omega) (by omega)) | (omega)) (fun r70 => ?_)
      refine x_iast_ dX13_begins_71 (by first | (exact MdL.k_row (by assumption)) | (assumption)) (by first | (exact MdL.x_row (by assumption) (by omega) (by omega)) | (omega)) (by omega) ?_
      refine x_aload_0 dX13_begins_72 ?_
      refine x_getR dX13_begins_73 fl1631_13 rfl (by first | (exact MdL.k0 (by assumption)) | (assumption)) (by first | (exact MdL.v_later (by assumption)) | (assumption)) ?_
      refine x_iload_1 dX13_begins_76 ?_
      refine x_iconst dX13_begins_77 ?_
      refine x_iast_ dX13_begins_78 (by first | (exact MdL.k_later (by assumption)) | (assumption)) (by first | (exact MdL.x_later (by assumption) (by omega) (by omega)) | (omega)) (by omega) ?_
      refine x_iinc1 dX13_begins_79 rfl ?_
      refine x_goto (tgt := 23) dX13_begins_82 rfl ?_
      refine ih _ (by omega) ⟨fun a ha hb => ?_, fun j z0 z1 => ?_, fun m z0 z1 => ?_⟩
      · simp (disch := omega) only [am_st_o]
        exact u1 a ha hb
      · simp (disch := omega) only [am_st_o, am_st_i]
        exact u2 j z0 z1
      · by_cases e : m = i
        · subst e
          simp (disch := omega) only [am_st_o, am_st_i, am_st_s]
          refine ⟨trivial, fun hm => ?_⟩
          rw [u1 (o + 12) (by omega) (by omega), u1 (o + 13) (by omega) (by omega)]
          exact ⟨(hdo m z0 hm).1, (hdo m z0 hm).2.1⟩
        · simp (disch := omega) only [am_st_o, am_st_i]
          exact u3 m z0 (by omega)
  · refine x_aload_0 dX13_begins_8 ?_
    refine x_getR dX13_begins_9 fl1630_13 rfl (by first | (exact MdL.k0 (by assumption)) | (assumption)) (by first | (exact MdL.v_row (by assumption)) | (assumption)) ?_
    refine x_iload_1 dX13_begins_12 ?_
    refine x_iconst dX13_begins_13 ?_
    refine x_iast_ dX13_begins_14 (by first | (exact MdL.k_row (by assumption)) | (assumption)) (by first | (exact MdL.x_row (by assumption) (by omega) (by omega)) | (omega)) (by omega) ?_
    refine x_iinc1 dX13_begins_15 rfl ?_
    refine x_goto (tgt := 2) dX13_begins_18 rfl ?_
    refine ih _ (by omega) ⟨fun a ha => ?_, fun j z0 z1 => ?_⟩
    · simp (disch := omega) only [am_st_o]
      exact p1 a ha
    · rw [am_st_at]
      by_cases e : j = i
      · rw [if_pos ⟨rfl, e⟩]
      · rw [if_neg (by omega)]
        exact p2 j z0 (by omega)
theorem C_X13_keepsRow (hL : MdL L o) (k : ∀ h', (∀ a, a ≠ (o + 37) → h' a = h a) → (∀ j, 0 ≤ j → j < 1290 → h' (o + 37) j = h (o + 38) j) → Q (.inl []) L h') : am_C G mX13_keepsRow (d + 1) [aR o] L h Q := by
  refine x_start okX13_keepsRow rfl rfl rfl rfl ?_
  refine x_iconst dX13_keepsRow_0 ?_
  refine x_istore_1 dX13_keepsRow_1 rfl ?_
  skip
  refine x_for 1290 (fun i hh => (∀ a, a ≠ (o + 37) → hh a = h a) ∧ ∀ j, 0 ≤ j → j < i → hh (o + 37) j = h (o + 38) j) (fun i hh => am_X G mX13_keepsRow (d + 1) 2 [aR o, aI i] [] L hh Q) (fun i hh g0 g1 hP ih => ?_) h (by omega) ⟨fun _ _ => rfl, fun j z0 z1 => by omega⟩
  obtain ⟨p1, p2⟩ := hP
  refine x_iload_1 dX13_keepsRow_2 ?_
  refine x_sipush dX13_keepsRow_3 rfl ?_
  refine x_icmp_ge (tgt := 27) dX13_keepsRow_6 rfl (by omega) (by omega) (fun c6 => ?_) (fun c6 => ?_)
  · refine x_ret dX13_keepsRow_27 rfl ?_
    refine k _ p1 (fun j z0 z1 => p2 j z0 (by omega))
  · refine x_aload_0 dX13_keepsRow_9 ?_
    refine x_getR dX13_keepsRow_10 fl1629_13 rfl (by first | (exact MdL.k0 (by assumption)) | (assumption)) (by first | (exact MdL.v_now (by assumption)) | (assumption)) ?_
    refine x_iload_1 dX13_keepsRow_13 ?_
    refine x_aload_0 dX13_keepsRow_14 ?_
    refine x_getR dX13_keepsRow_15 fl1630_13 rfl (by first | (exact MdL.k0 (by assumption)) | (assumption)) (by first | (exact MdL.v_row (by assumption)) | (assumption)) ?_
    refine x_iload_1 dX13_keepsRow_18 ?_
    refine x_iald_ dX13_keepsRow_19 (by first | (exact MdL.k_row (by assumption)) | (assumption)) (by first | (exact MdL.x_row (by assumption) (by omega) (by omega)) | (omega)) (fun r19 => ?_)
    refine x_iast_ dX13_keepsRow_20 (by first | (exact MdL.k_now (by assumption)) | (assumption)) (by first | (exact MdL.x_now (by assumption) (by omega) (by omega)) | (omega)) (by omega) ?_
    refine x_iinc1 dX13_keepsRow_21 rfl ?_
    refine x_goto (tgt := 2) dX13_keepsRow_24 rfl ?_
    refine ih _ (by omega) ⟨fun a ha => ?_, fun j z0 z1 => ?_⟩
    · simp (disch := omega) only [am_st_o]
      exact p1 a ha
    · rw [am_st_at]
      by_cases e : j = i
      · rw [if_pos ⟨rfl, e⟩, p1 _ (by omega), e]
      · rw [if_neg (by omega)]
        exact p2 j z0 (by omega)
theorem C_X13_copies (hL : MdL L o) (k : ∀ h', (∀ a, a ≠ (o + 38) → a ≠ (o + 39) → h' a = h a) → (∀ j, 0 ≤ j → j < 1290 → h' (o + 38) j = h (o + 37) j) → (∀ m, 0 ≤ m → m < 7 → h' (o + 39) m = 0) → Q (.inl []) L h') : am_C G mX13_copies (d + 1) [aR o] L h Q := by
  refine x_start okX13_copies rfl rfl rfl rfl ?_
  refine x_iconst dX13_copies_0 ?_
  refine x_istore_1 dX13_copies_1 rfl ?_
  skip
  refine x_for 1290 (fun i hh => (∀ a, a ≠ (o + 38) → hh a = h a) ∧ ∀ j, 0 ≤ j → j < i → hh (o + 38) j = h (o + 37) j) (fun i hh => am_X G mX13_copies (d + 1) 2 [aR o, aI i] [] L hh Q) (fun i hh g0 g1 hP ih => ?_) h (by omega) ⟨fun _ _ => rfl, fun j z0 z1 => by omega⟩
  obtain ⟨p1, p2⟩ := hP
  refine x_iload_1 dX13_copies_2 ?_
  refine x_sipush dX13_copies_3 rfl ?_
  refine x_icmp_ge (tgt := 27) dX13_copies_6 rfl (by omega) (by omega) (fun c6 => ?_) (fun c6 => ?_)
  · refine x_iconst dX13_copies_27 ?_
    refine x_istore_1 dX13_copies_28 rfl ?_
    refine x_for 7 (fun i h2 => (∀ a, a ≠ (o + 38) → a ≠ (o + 39) → h2 a = h a) ∧ (∀ j, 0 ≤ j → j < 1290 → h2 (o + 38) j = h (o + 37) j) ∧ ∀ m, 0 ≤ m → m < i → h2 (o + 39) m = 0) (fun i hh => am_X G mX13_copies (d + 1) 29 [aR o, aI i] [] L hh Q) (fun i h2 g0 g1 hP ih => ?_) hh (by omega) ⟨fun a ha _ => p1 a ha, fun j z0 z1 => p2 j z0 (by omega), fun j z0 z1 => by omega⟩
    obtain ⟨u1, u2, u3⟩ := hP
    refine x_iload_1 dX13_copies_29 ?_
    refine x_bipush dX13_copies_30 rfl ?_
    refine x_icmp_ge (tgt := 48) dX13_copies_32 rfl (by omega) (by omega) (fun c32 => ?_) (fun c32 => ?_)
    · refine x_ret dX13_copies_48 rfl ?_
      exact k _ u1 u2 (fun m z0 z1 => u3 m z0 (by omega))
    · refine x_aload_0 dX13_copies_35 ?_
      refine x_getR dX13_copies_36 fl1631_13 rfl (by first | (exact MdL.k0 (by assumption)) | (assumption)) (by first | (exact MdL.v_later (by assumption)) | (assumption)) ?_
      refine x_iload_1 dX13_copies_39 ?_
      refine x_iconst dX13_copies_40 ?_
      refine x_iast_ dX13_copies_41 (by first | (exact MdL.k_later (by assumption)) | (assumption)) (by first | (exact MdL.x_later (by assumption) (by omega) (by omega)) | (omega)) (by omega) ?_
      refine x_iinc1 dX13_copies_42 rfl ?_
      refine x_goto (tgt := 29) dX13_copies_45 rfl ?_
      refine ih _ (by omega) ⟨fun a ha hb => ?_, fun j z0 z1 => ?_, fun m z0 z1 => ?_⟩
      · simp (disch := omega) only [am_st_o]
        exact u1 a ha hb
      · simp (disch := omega) only [am_st_o]
        exact u2 j z0 z1
      · rw [am_st_at]
        by_cases e : m = i
        · rw [if_pos ⟨rfl, e⟩]
        · rw [if_neg (by omega)]
          exact u3 m z0 (by omega)
  · refine x_aload_0 dX13_copies_9 ?_
    refine x_getR dX13_copies_10 fl1630_13 rfl (by first | (exact MdL.k0 (by assumption)) | (assumption)) (by first | (exact MdL.v_row (by assumption)) | (assumption)) ?_
    refine x_iload_1 dX13_copies_13 ?_
    refine x_aload_0 dX13_copies_14 ?_
    refine x_getR dX13_copies_15 fl1629_13 rfl (by first | (exact MdL.k0 (by assumption)) | (assumption)) (by first | (exact MdL.v_now (by assumption)) | (assumption)) ?_
    refine x_iload_1 dX13_copies_18 ?_
    refine x_iald_ dX13_copies_19 (by first | (exact MdL.k_now (by assumption)) | (assumption)) (by first | (exact MdL.x_now (by assumption) (by omega) (by omega)) | (omega)) (fun r19 => ?_)
    refine x_iast_ dX13_copies_20 (by first | (exact MdL.k_row (by assumption)) | (assumption)) (by first | (exact MdL.x_row (by assumption) (by omega) (by omega)) | (omega)) (by omega) ?_
    refine x_iinc1 dX13_copies_21 rfl ?_
    refine x_goto (tgt := 2) dX13_copies_24 rfl ?_
    refine ih _ (by omega) ⟨fun a ha => ?_, fun j z0 z1 => ?_⟩
    · simp (disch := omega) only [am_st_o]
      exact p1 a ha
    · rw [am_st_at]
      by_cases e : j = i
      · rw [if_pos ⟨rfl, e⟩, p1 _ (by omega), e]
      · rw [if_neg (by omega)]
        exact p2 j z0 (by omega)
/-- the row that is worked on is the one that stands -/
theorem C_X13_copiesR (hL : MdL L o) (hR : RwF (h (o + 37)) (tM T) S) (hI : RowI T S b q) (hT : TxtI T) (k : ∀ h', (∀ a, a ≠ (o + 38) → a ≠ (o + 39) → h' a = h a) → FrW h h' o → RwF (h' (o + 38)) (tM T) S → (∀ m, 0 ≤ m → m < 7 → h' (o + 39) m = 0) → Q (.inl []) L h') : am_C G mX13_copies (d + 1) [aR o] L h Q :=
  C_X13_copies hL fun h' e1 e2 e3 => k h' e1 (fun a i z => by rw [e1 a (by omega) (by omega)]) (hR.cg (fun m h0 h1 => by have := (hI.1 m h0 h1).1; have := lng_bd hT m; omega) hT.1.2 e2) e3
end MROW
