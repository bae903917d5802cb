/-! THE TWIN: its words, an empty text -/
set_option maxRecDepth 100000
/-- a name, and a letter behind it -/
def apN (n c : Int) : Int := if c = 0 then n else 27 * n + (c - 97 + 1)
section MWORD
variable {G : am_G} {L : am_L} {h : am_H} {o s : Int} {d : Nat} {Q : am_O → am_L → am_H → Prop}
theorem C_X13_appends {n c : Int} (hc : 0 ≤ c ∧ c ≤ 255) (k : Q (.inl [aL (apN n c)]) L h) : am_C G mX13_appends (d + 1) [aL n, aI c] L h Q := by
  refine x_start okX13_appends rfl rfl rfl rfl ?_
  refine x_iload_2 dX13_appends_0 ?_
  refine x_if_ne (tgt := 8) dX13_appends_1 rfl (by omega) (fun c1 => ?_) (fun c1 => ?_)
  · refine x_ldc2 (n := 27) dX13_appends_8 q1566 ?_
    refine x_lload_0 dX13_appends_11 ?_
    refine x_lmul dX13_appends_12 ?_
    refine x_iload_2 dX13_appends_13 ?_
    refine x_bipush dX13_appends_14 rfl ?_
    refine x_isub dX13_appends_16 ?_
    refine x_iconst dX13_appends_17 ?_
    refine x_iadd dX13_appends_18 ?_
    refine x_i2l dX13_appends_19 (by omega) ?_
    refine x_ladd dX13_appends_20 ?_
    refine x_lret dX13_appends_21 rfl ?_
    unfold apN at k
    split at k
    · first
        | exact k
        | exact absurd ‹c = 0› (by omega)
    · first
        | exact k
        | exact absurd (show c = 0 by omega) ‹¬ c = 0›
  · refine x_lload_0 dX13_appends_4 ?_
    refine x_goto (tgt := 21) dX13_appends_5 rfl ?_
    refine x_lret dX13_appends_21 rfl ?_
    unfold apN at k
    split at k
    · first
        | exact k
        | exact absurd ‹c = 0› (by omega)
    · first
        | exact k
        | exact absurd (show c = 0 by omega) ‹¬ c = 0›
theorem C_X13_word {a b c e f g i : Int} (ha : 0 ≤ a ∧ a ≤ 255) (hb : 0 ≤ b ∧ b ≤ 255) (hc : 0 ≤ c ∧ c ≤ 255) (he : 0 ≤ e ∧ e ≤ 255) (hf : 0 ≤ f ∧ f ≤ 255) (hg : 0 ≤ g ∧ g ≤ 255) (hi : 0 ≤ i ∧ i ≤ 255) (k : Q (.inl [aL (apN (apN (apN (apN (apN (apN (apN 0 a) b) c) e) f) g) i)]) L h) : am_C G mX13_word (d + 2) [aI a, aI b, aI c, aI e, aI f, aI g, aI i] L h Q := by
  refine x_start okX13_word rfl rfl rfl rfl ?_
  refine x_lconst dX13_word_0 ?_
  refine x_iload_0 dX13_word_1 ?_
  refine x_callS2 dX13_word_2 rfl okX13_appends q1563 q1564 rfl (C_X13_appends ha (x_k1 ?_))
  refine x_iload_1 dX13_word_5 ?_
  refine x_callS2 dX13_word_6 rfl okX13_appends q1563 q1564 rfl (C_X13_appends hb (x_k1 ?_))
  refine x_iload_2 dX13_word_9 ?_
  refine x_callS2 dX13_word_10 rfl okX13_appends q1563 q1564 rfl (C_X13_appends hc (x_k1 ?_))
  refine x_iload_3 dX13_word_13 ?_
  refine x_callS2 dX13_word_14 rfl okX13_appends q1563 q1564 rfl (C_X13_appends he (x_k1 ?_))
  refine x_iload4 dX13_word_17 ?_
  refine x_callS2 dX13_word_19 rfl okX13_appends q1563 q1564 rfl (C_X13_appends hf (x_k1 ?_))
  refine x_iload5 dX13_word_22 ?_
  refine x_callS2 dX13_word_24 rfl okX13_appends q1563 q1564 rfl (C_X13_appends hg (x_k1 ?_))
  refine x_iload6 dX13_word_27 ?_
  refine x_callS2 dX13_word_29 rfl okX13_appends q1563 q1564 rfl (C_X13_appends hi (x_k1 ?_))
  refine x_lret dX13_word_32 rfl ?_
  exact k
theorem C_X13_plain0 (hL : MdL L o) (hs : 0 ≤ s ∧ s ≤ 1) (k : ∀ h', (∀ a i, ¬ sdR o s a i → h' a i = h a i) → (h' (o + 9) s = 6 ∧ h' (o + 10) s = 6 ∧ h' (o + 11) s = 0 ∧ h' (o + 18) s = 0 ∧ h' (o + 21) s = 0) → (∀ j, 0 ≤ j → j < 8 → h' (o + 25) (8 * s + j) = 0 ∧ h' (o + 26) (8 * s + j) = 0) → (∀ j, 0 ≤ j → j < 7 → h' (o + 14) (7 * s + j) = 0 ∧ h' (o + 15) (7 * s + j) = 0) → Q (.inl []) L h') : am_C G mX13_plain0 (d + 1) [aR o, aI s] L h Q := by
  refine x_start okX13_plain0 rfl rfl rfl rfl ?_
  refine x_aload_0 dX13_plain0_0 ?_
  refine x_getR dX13_plain0_1 fl1596_13 rfl (by first | (exact MdL.k0 (by assumption)) | (assumption)) (by first | (exact MdL.v_wide (by assumption)) | (assumption)) ?_
  refine x_iload_1 dX13_plain0_4 ?_
  refine x_bipush dX13_plain0_5 rfl ?_
  refine x_iast_ dX13_plain0_7 (by first | (exact MdL.k_wide (by assumption)) | (assumption)) (by first | (exact MdL.x_wide (by assumption) (by omega) (by omega)) | (omega)) (by omega) ?_
  refine x_aload_0 dX13_plain0_8 ?_
  refine x_getR dX13_plain0_9 fl1597_13 rfl (by first | (exact MdL.k0 (by assumption)) | (assumption)) (by first | (exact MdL.v_high (by assumption)) | (assumption)) ?_
  refine x_iload_1 dX13_plain0_12 ?_
  refine x_bipush dX13_plain0_13 rfl ?_
  refine x_iast_ dX13_plain0_15 (by first | (exact MdL.k_high (by assumption)) | (assumption)) (by first | (exact MdL.x_high (by assumption) (by omega) (by omega)) | (omega)) (by omega) ?_
  refine x_aload_0 dX13_plain0_16 ?_
  refine x_getR dX13_plain0_17 fl1598_13 rfl (by first | (exact MdL.k0 (by assumption)) | (assumption)) (by first | (exact MdL.v_men (by assumption)) | (assumption)) ?_
  refine x_iload_1 dX13_plain0_20 ?_
  refine x_iconst dX13_plain0_21 ?_
  refine x_iast_ dX13_plain0_22 (by first | (exact MdL.k_men (by assumption)) | (assumption)) (by first | (exact MdL.x_men (by assumption) (by omega) (by omega)) | (omega)) (by omega) ?_
  refine x_aload_0 dX13_plain0_23 ?_
  refine x_getR dX13_plain0_24 fl1605_13 rfl (by first | (exact MdL.k0 (by assumption)) | (assumption)) (by first | (exact MdL.v_pillars (by assumption)) | (assumption)) ?_
  refine x_iload_1 dX13_plain0_27 ?_
  refine x_iconst dX13_plain0_28 ?_
  refine x_iast_ dX13_plain0_29 (by first | (exact MdL.k_pillars (by assumption)) | (assumption)) (by first | (exact MdL.x_pillars (by assumption) (by omega) (by omega)) | (omega)) (by omega) ?_
  refine x_aload_0 dX13_plain0_30 ?_
  refine x_getR dX13_plain0_31 fl1608_13 rfl (by first | (exact MdL.k0 (by assumption)) | (assumption)) (by first | (exact MdL.v_seed (by assumption)) | (assumption)) ?_
  refine x_iload_1 dX13_plain0_34 ?_
  refine x_iconst dX13_plain0_35 ?_
  refine x_iast_ dX13_plain0_36 (by first | (exact MdL.k_seed (by assumption)) | (assumption)) (by first | (exact MdL.x_seed (by assumption) (by omega) (by omega)) | (omega)) (by omega) ?_
  refine x_iconst dX13_plain0_37 ?_
  refine x_istore_2 dX13_plain0_38 rfl ?_
  skip
  generalize hg : am_st _ _ _ _ = h1
  have q1 : ∀ a i, ¬ sdR o s a i → h1 a i = h a i := fun a i hn => by
    subst hg
    unfold sdR at hn
    simp only [am_st_at]
    repeat rw [if_neg (by omega)]
  have q2 : h1 (o + 9) s = 6 ∧ h1 (o + 10) s = 6 ∧ h1 (o + 11) s = 0 ∧ h1 (o + 18) s = 0 ∧ h1 (o + 21) s = 0 := by
    subst hg
    simp only [am_st_at]
    refine ⟨?_, ?_, ?_, ?_, ?_⟩ <;> ((repeat (rw [if_neg (by omega)])); simp)
  clear hg
  have hlp : ∀ hh : am_H, (∀ a x, ¬ sdR o s a x → hh a x = h a x) → (hh (o + 9) s = 6 ∧ hh (o + 10) s = 6 ∧ hh (o + 11) s = 0 ∧ hh (o + 18) s = 0 ∧ hh (o + 21) s = 0) → (∀ j, 0 ≤ j → j < 8 → hh (o + 25) (8 * s + j) = 0 ∧ hh (o + 26) (8 * s + j) = 0) → am_X G mX13_plain0 (d + 1) 77 [aR o, aI s, aI 0] [] L hh Q := by
    intro hh p1 p2 p4
    refine x_for 7 (fun i h2 => (∀ a x, ¬ sdR o s a x → h2 a x = h a x) ∧ (h2 (o + 9) s = 6 ∧ h2 (o + 10) s = 6 ∧ h2 (o + 11) s = 0 ∧ h2 (o + 18) s = 0 ∧ h2 (o + 21) s = 0) ∧ (∀ j, 0 ≤ j → j < 8 → h2 (o + 25) (8 * s + j) = 0 ∧ h2 (o + 26) (8 * s + j) = 0) ∧ ∀ j, 0 ≤ j → j < i → h2 (o + 14) (7 * s + j) = 0 ∧ h2 (o + 15) (7 * s + j) = 0) (fun i h2 => am_X G mX13_plain0 (d + 1) 77 [aR o, aI s, aI i] [] L h2 Q) (fun x h2 g2 g3 hP2 ih2 => ?_) hh (by omega) ⟨p1, p2, p4, fun j z0 z1 => by omega⟩
    obtain ⟨r1, r2, r3, r4⟩ := hP2
    refine x_iload_2 dX13_plain0_77 ?_
    refine x_bipush dX13_plain0_78 rfl ?_
    refine x_icmp_ge (tgt := 113) dX13_plain0_80 rfl (by omega) (by omega) (fun c80 => ?_) (fun c80 => ?_)
    · refine x_ret dX13_plain0_113 rfl ?_
      exact k _ r1 r2 r3 (fun j z0 z1 => r4 j z0 (by omega))
    · refine x_aload_0 dX13_plain0_83 ?_
      refine x_getR dX13_plain0_84 fl1601_13 rfl (by first | (exact MdL.k0 (by assumption)) | (assumption)) (by first | (exact MdL.v_dyeOf (by assumption)) | (assumption)) ?_
      refine x_bipush dX13_plain0_87 rfl ?_
      refine x_iload_1 dX13_plain0_89 ?_
      refine x_imul dX13_plain0_90 ?_
      refine x_iload_2 dX13_plain0_91 ?_
      refine x_iadd dX13_plain0_92 ?_
      refine x_iconst dX13_plain0_93 ?_
      refine x_iast_ dX13_plain0_94 (by first | (exact MdL.k_dyeOf (by assumption)) | (assumption)) (by first | (exact MdL.x_dyeOf (by assumption) (by omega) (by omega)) | (omega)) (by omega) ?_
      refine x_aload_0 dX13_plain0_95 ?_
      refine x_getR dX13_plain0_96 fl1602_13 rfl (by first | (exact MdL.k0 (by assumption)) | (assumption)) (by first | (exact MdL.v_errands (by assumption)) | (assumption)) ?_
      refine x_bipush dX13_plain0_99 rfl ?_
      refine x_iload_1 dX13_plain0_101 ?_
      refine x_imul dX13_plain0_102 ?_
      refine x_iload_2 dX13_plain0_103 ?_
      refine x_iadd dX13_plain0_104 ?_
      refine x_iconst dX13_plain0_105 ?_
      refine x_iast_ dX13_plain0_106 (by first | (exact MdL.k_errands (by assumption)) | (assumption)) (by first | (exact MdL.x_errands (by assumption) (by omega) (by omega)) | (omega)) (by omega) ?_
      refine x_iinc2 dX13_plain0_107 rfl ?_
      refine x_goto (tgt := 77) dX13_plain0_110 rfl ?_
      refine ih2 _ (by omega) ⟨fun a y hn => ?_, ?_, fun j z0 z1 => ?_, fun j z0 z1 => ?_⟩
      · rw [← r1 a y hn]
        unfold sdR at hn
        simp only [am_st_at]
        repeat rw [if_neg (by omega)]
      · simp only [am_st_at]
        refine ⟨?_, ?_, ?_, ?_, ?_⟩ <;> ((repeat (rw [if_neg (by omega)])); omega)
      · have := r3 j z0 z1
        simp only [am_st_at]
        constructor <;> ((repeat (rw [if_neg (by omega)])); omega)
      · simp only [am_st_at]
        rcases Int.lt_or_le j x with e | e
        · have := r4 j z0 e
          constructor <;> ((repeat (rw [if_neg (by omega)])); omega)
        · constructor
          · rw [if_neg (by omega), if_pos (by exact ⟨trivial, by omega⟩)]
          · rw [if_pos (by exact ⟨trivial, by omega⟩)]
  refine x_for 8 (fun i hh => (∀ a x, ¬ sdR o s a x → hh a x = h a x) ∧ (hh (o + 9) s = 6 ∧ hh (o + 10) s = 6 ∧ hh (o + 11) s = 0 ∧ hh (o + 18) s = 0 ∧ hh (o + 21) s = 0) ∧ ∀ j, 0 ≤ j → j < i → hh (o + 25) (8 * s + j) = 0 ∧ hh (o + 26) (8 * s + j) = 0) (fun i hh => am_X G mX13_plain0 (d + 1) 39 [aR o, aI s, aI i] [] L hh Q) (fun i hh g0 g1 hP ih => ?_) h1 (by omega) ⟨q1, q2, fun j z0 z1 => by omega⟩
  obtain ⟨p1, p2, p3⟩ := hP
  refine x_iload_2 dX13_plain0_39 ?_
  refine x_bipush dX13_plain0_40 rfl ?_
  refine x_icmp_ge (tgt := 75) dX13_plain0_42 rfl (by omega) (by omega) (fun c42 => ?_) (fun c42 => ?_)
  · refine x_iconst dX13_plain0_75 ?_
    refine x_istore_2 dX13_plain0_76 rfl ?_
    rw [show i = 8 by omega] at p3
    exact hlp hh p1 p2 p3
  · refine x_aload_0 dX13_plain0_45 ?_
    refine x_getR dX13_plain0_46 fl1613_13 rfl (by first | (exact MdL.k0 (by assumption)) | (assumption)) (by first | (exact MdL.v_lawFirst (by assumption)) | (assumption)) ?_
    refine x_bipush dX13_plain0_49 rfl ?_
    refine x_iload_1 dX13_plain0_51 ?_
    refine x_imul dX13_plain0_52 ?_
    refine x_iload_2 dX13_plain0_53 ?_
    refine x_iadd dX13_plain0_54 ?_
    refine x_iconst dX13_plain0_55 ?_
    refine x_iast_ dX13_plain0_56 (by first | (exact MdL.k_lawFirst (by assumption)) | (assumption)) (by first | (exact MdL.x_lawFirst (by assumption) (by omega) (by omega)) | (omega)) (by omega) ?_
    refine x_aload_0 dX13_plain0_57 ?_
    refine x_getR dX13_plain0_58 fl1614_13 rfl (by first | (exact MdL.k0 (by assumption)) | (assumption)) (by first | (exact MdL.v_lawLast (by assumption)) | (assumption)) ?_
    refine x_bipush dX13_plain0_61 rfl ?_
    refine x_iload_1 dX13_plain0_63 ?_
    refine x_imul dX13_plain0_64 ?_
    refine x_iload_2 dX13_plain0_65 ?_
    refine x_iadd dX13_plain0_66 ?_
    refine x_iconst dX13_plain0_67 ?_
    refine x_iast_ dX13_plain0_68 (by first | (exact MdL.k_lawLast (by assumption)) | (assumption)) (by first | (exact MdL.x_lawLast (by assumption) (by omega) (by omega)) | (omega)) (by omega) ?_
    refine x_iinc2 dX13_plain0_69 rfl ?_
    refine x_goto (tgt := 39) dX13_plain0_72 rfl ?_
    refine ih _ (by omega) ⟨fun a x hn => ?_, ?_, fun j z0 z1 => ?_⟩
    · rw [← p1 a x hn]
      unfold sdR at hn
      simp only [am_st_at]
      repeat rw [if_neg (by omega)]
    · simp only [am_st_at]
      refine ⟨?_, ?_, ?_, ?_, ?_⟩ <;> ((repeat (rw [if_neg (by omega)])); omega)
    · simp only [am_st_at]
      rcases Int.lt_or_le j i with e | e
      · have := p3 j z0 e
        constructor <;> ((repeat (rw [if_neg (by omega)])); omega)
      · constructor
        · rw [if_neg (by omega), if_pos (by exact ⟨trivial, by omega⟩)]
        · rw [if_pos (by exact ⟨trivial, by omega⟩)]
end MWORD
