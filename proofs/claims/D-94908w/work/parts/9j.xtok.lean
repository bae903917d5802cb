/-! THREADTOWN READS: its tokens -/
set_option maxRecDepth 100000
section XTOK
variable {G : am_G} {L : am_L} {h : am_H} {x D : Int} {b : Int → Int} {d : Nat} {Q : am_O → am_L → am_H → Prop}
/-- the tape: D bytes b -/
def TpL (h : am_H) (x D : Int) (b : Int → Int) : Prop := h (x + 2) 2 = D ∧ (0 ≤ D ∧ D ≤ 2000) ∧ (∀ i, 0 ≤ i → i < D → h (x + 4) i = b i) ∧ ∀ i, 0 ≤ i → i < D → -128 ≤ b i ∧ b i ≤ 127
def ifL (b : Int → Int) (D k : Int) : Int := if k < D ∧ isL (b k) = true then 1 else 0
def ifG (b : Int → Int) (D k : Int) : Int := if k < D ∧ isG (b k) = true then 1 else 0
theorem TpL.bd (hT : TpL h x D b) {k c : Int} (hk : 0 ≤ k) (hc : (if k < D then b k else 0) = c) : -128 ≤ c ∧ c ≤ 127 := by
  rw [← hc]
  split
  · exact hT.2.2.2 k hk (by assumption)
  · omega
theorem C_X2_at {k c : Int} (hK : MkL L x) (hT : TpL h x D b) (hk : 0 ≤ k ∧ k ≤ 2001) (hc : (if k < D then b k else 0) = c) (kk : Q (.inl [aI c]) L h) : am_C G mX2_at (d + 1) [aR (x + 2), aI k] L h Q := by
  obtain ⟨t1, t2, t3, t4⟩ := hT
  refine x_start okX2_at rfl rfl rfl rfl ?_
  refine x_iload_1 dX2_at_0 ?_
  refine x_aload_0 dX2_at_1 ?_
  refine x_getI_ dX2_at_2 fl262_2 (by first | (exact MkL.k_tokens (by assumption)) | (assumption)) (fun r2 => ?_)
  rw [t1] at r2 ⊢
  refine x_icmp_ge (tgt := 17) dX2_at_5 rfl (by omega) (by omega) (fun c5 => ?_) (fun c5 => ?_)
  · refine x_iconst dX2_at_17 ?_
    refine x_iret dX2_at_18 rfl ?_
    refine x_q1 ?_ kk
    rw [← hc]
    first
      | (rw [if_pos (by omega)]; exact t3 k (by omega) (by omega))
      | rw [if_neg (by omega)]
  · refine x_aload_0 dX2_at_8 ?_
    refine x_getR dX2_at_9 fl260_2 rfl (by first | (exact MkL.k_tokens (by assumption)) | (assumption)) (by first | (exact MkL.v_tape (by assumption)) | (assumption)) ?_
    refine x_iload_1 dX2_at_12 ?_
    refine x_bald_ dX2_at_13 (by first | (exact MkL.k_tape (by assumption)) | (assumption)) (by first | (exact MkL.x_tape (by assumption) (by omega) (by omega)) | (omega)) (fun r13 => ?_)
    refine x_goto (tgt := 18) dX2_at_14 rfl ?_
    refine x_iret dX2_at_18 rfl ?_
    refine x_q1 ?_ kk
    rw [← hc]
    first
      | (rw [if_pos (by omega)]; exact t3 k (by omega) (by omega))
      | rw [if_neg (by omega)]
theorem C_X2_isLetter {k : Int} (hK : MkL L x) (hT : TpL h x D b) (hk : 0 ≤ k ∧ k ≤ 2001) (kk : Q (.inl [aI (ifL b D k)]) L h) : am_C G mX2_isLetter (d + 2) [aR (x + 2), aI k] L h Q := by
  refine x_start okX2_isLetter rfl rfl rfl rfl ?_
  obtain ⟨c, hc⟩ : ∃ c, (if k < D then b k else 0) = c := ⟨_, rfl⟩
  have hb := hT.bd hk.1 hc
  have he : ifL b D k = if 97 ≤ c ∧ c ≤ 122 then 1 else 0 := by
    rw [← hc]
    unfold ifL isL
    by_cases q : k < D
    · simp only [q, true_and, if_true, decide_eq_true_eq]
    · simp only [q, false_and, if_false]
      rfl
  rw [he] at kk
  refine x_aload_0 dX2_isLetter_0 ?_
  refine x_iload_1 dX2_isLetter_1 ?_
  refine x_callV1 dX2_isLetter_2 rfl okX2_at q676 q678 qs4 (by first | assumption | (exact MkL.k_tokens (by assumption))) am_k2 rfl (C_X2_at hK hT hk hc (x_k1 ?_))
  refine x_bipush dX2_isLetter_5 rfl ?_
  refine x_icmp_lt (tgt := 24) dX2_isLetter_7 rfl (by omega) (by omega) (fun c7 => ?_) (fun c7 => ?_)
  · refine x_iconst dX2_isLetter_24 ?_
    refine x_zret dX2_isLetter_25 rfl (by omega) ?_
    refine x_q1 ?_ kk
    split <;> omega
  · refine x_aload_0 dX2_isLetter_10 ?_
    refine x_iload_1 dX2_isLetter_11 ?_
    refine x_callV1 dX2_isLetter_12 rfl okX2_at q676 q678 qs4 (by first | assumption | (exact MkL.k_tokens (by assumption))) am_k2 rfl (C_X2_at hK hT hk hc (x_k1 ?_))
    refine x_bipush dX2_isLetter_15 rfl ?_
    refine x_icmp_gt (tgt := 24) dX2_isLetter_17 rfl (by omega) (by omega) (fun c17 => ?_) (fun c17 => ?_)
    · refine x_iconst dX2_isLetter_24 ?_
      refine x_zret dX2_isLetter_25 rfl (by omega) ?_
      refine x_q1 ?_ kk
      split <;> omega
    · refine x_iconst dX2_isLetter_20 ?_
      refine x_goto (tgt := 25) dX2_isLetter_21 rfl ?_
      refine x_zret dX2_isLetter_25 rfl (by omega) ?_
      refine x_q1 ?_ kk
      split <;> omega
theorem C_X2_isDigit {k : Int} (hK : MkL L x) (hT : TpL h x D b) (hk : 0 ≤ k ∧ k ≤ 2001) (kk : Q (.inl [aI (ifG b D k)]) L h) : am_C G mX2_isDigit (d + 2) [aR (x + 2), aI k] L h Q := by
  refine x_start okX2_isDigit rfl rfl rfl rfl ?_
  obtain ⟨c, hc⟩ : ∃ c, (if k < D then b k else 0) = c := ⟨_, rfl⟩
  have hb := hT.bd hk.1 hc
  have he : ifG b D k = if 48 ≤ c ∧ c ≤ 57 then 1 else 0 := by
    rw [← hc]
    unfold ifG isG
    by_cases q : k < D
    · simp only [q, true_and, if_true, decide_eq_true_eq]
    · simp only [q, false_and, if_false]
      rfl
  rw [he] at kk
  refine x_aload_0 dX2_isDigit_0 ?_
  refine x_iload_1 dX2_isDigit_1 ?_
  refine x_callV1 dX2_isDigit_2 rfl okX2_at q676 q678 qs4 (by first | assumption | (exact MkL.k_tokens (by assumption))) am_k2 rfl (C_X2_at hK hT hk hc (x_k1 ?_))
  refine x_bipush dX2_isDigit_5 rfl ?_
  refine x_icmp_lt (tgt := 24) dX2_isDigit_7 rfl (by omega) (by omega) (fun c7 => ?_) (fun c7 => ?_)
  · refine x_iconst dX2_isDigit_24 ?_
    refine x_zret dX2_isDigit_25 rfl (by omega) ?_
    refine x_q1 ?_ kk
    split <;> omega
  · refine x_aload_0 dX2_isDigit_10 ?_
    refine x_iload_1 dX2_isDigit_11 ?_
    refine x_callV1 dX2_isDigit_12 rfl okX2_at q676 q678 qs4 (by first | assumption | (exact MkL.k_tokens (by assumption))) am_k2 rfl (C_X2_at hK hT hk hc (x_k1 ?_))
    refine x_bipush dX2_isDigit_15 rfl ?_
    refine x_icmp_gt (tgt := 24) dX2_isDigit_17 rfl (by omega) (by omega) (fun c17 => ?_) (fun c17 => ?_)
    · refine x_iconst dX2_isDigit_24 ?_
      refine x_zret dX2_isDigit_25 rfl (by omega) ?_
      refine x_q1 ?_ kk
      split <;> omega
    · refine x_iconst dX2_isDigit_20 ?_
      refine x_goto (tgt := 25) dX2_isDigit_21 rfl ?_
      refine x_zret dX2_isDigit_25 rfl (by omega) ?_
      refine x_q1 ?_ kk
      split <;> omega
/-- the sign's own byte, or 0 -/
def sgB (c : Int) : Int := if kdS c = 3 then 0 else c
theorem C_X2_sign {k : Int} (hK : MkL L x) (hT : TpL h x D b) (hk : 0 ≤ k ∧ k < D) (kk : Q (.inl [aI (sgB (b k))]) L h) : am_C G mX2_sign (d + 2) [aR (x + 2), aI k] L h Q := by
  have hT0 := hT
  obtain ⟨t1, t2, t3, t4⟩ := hT
  have hbd := t4 k hk.1 hk.2
  obtain ⟨c, hcb⟩ : ∃ c, b k = c := ⟨_, rfl⟩
  have hc : (if k < D then b k else 0) = c := by rw [if_pos hk.2]; exact hcb
  rw [hcb] at hbd kk
  refine x_start okX2_sign rfl rfl rfl rfl ?_
  refine x_aload_0 dX2_sign_0 ?_
  refine x_iload_1 dX2_sign_1 ?_
  refine x_callV1 dX2_sign_2 rfl okX2_at q676 q678 qs4 (by first | assumption | (exact MkL.k_tokens (by assumption))) am_k2 rfl (C_X2_at hK hT0 (by omega) hc (x_k1 ?_))
  refine x_istore_2 dX2_sign_5 rfl ?_
  refine x_iload_2 dX2_sign_6 ?_
  refine x_cs (40) (fun c7 => ?_) (fun c7_40 => ?_)
  · refine x_tableIn (off := 101) (tgt := 108) dX2_sign_7 (by omega) (by omega) (by omega) (by rw [c7]; rfl) rfl ?_
    refine x_iload_2 dX2_sign_108 ?_
    refine x_iret dX2_sign_109 rfl ?_
    refine x_q1 ?_ kk
    unfold sgB kdS
    (repeat' split) <;> omega
  refine x_cs (41) (fun c7 => ?_) (fun c7_41 => ?_)
  · refine x_tableIn (off := 101) (tgt := 108) dX2_sign_7 (by omega) (by omega) (by omega) (by rw [c7]; rfl) rfl ?_
    refine x_iload_2 dX2_sign_108 ?_
    refine x_iret dX2_sign_109 rfl ?_
    refine x_q1 ?_ kk
    unfold sgB kdS
    (repeat' split) <;> omega
  refine x_cs (42) (fun c7 => ?_) (fun c7_42 => ?_)
  · refine x_tableIn (off := 101) (tgt := 108) dX2_sign_7 (by omega) (by omega) (by omega) (by rw [c7]; rfl) rfl ?_
    refine x_iload_2 dX2_sign_108 ?_
    refine x_iret dX2_sign_109 rfl ?_
    refine x_q1 ?_ kk
    unfold sgB kdS
    (repeat' split) <;> omega
  refine x_cs (43) (fun c7 => ?_) (fun c7_43 => ?_)
  · refine x_tableIn (off := 101) (tgt := 108) dX2_sign_7 (by omega) (by omega) (by omega) (by rw [c7]; rfl) rfl ?_
    refine x_iload_2 dX2_sign_108 ?_
    refine x_iret dX2_sign_109 rfl ?_
    refine x_q1 ?_ kk
    unfold sgB kdS
    (repeat' split) <;> omega
  refine x_cs (45) (fun c7 => ?_) (fun c7_45 => ?_)
  · refine x_tableIn (off := 101) (tgt := 108) dX2_sign_7 (by omega) (by omega) (by omega) (by rw [c7]; rfl) rfl ?_
    refine x_iload_2 dX2_sign_108 ?_
    refine x_iret dX2_sign_109 rfl ?_
    refine x_q1 ?_ kk
    unfold sgB kdS
    (repeat' split) <;> omega
  refine x_cs (47) (fun c7 => ?_) (fun c7_47 => ?_)
  · refine x_tableIn (off := 101) (tgt := 108) dX2_sign_7 (by omega) (by omega) (by omega) (by rw [c7]; rfl) rfl ?_
    refine x_iload_2 dX2_sign_108 ?_
    refine x_iret dX2_sign_109 rfl ?_
    refine x_q1 ?_ kk
    unfold sgB kdS
    (repeat' split) <;> omega
  refine x_cs (59) (fun c7 => ?_) (fun c7_59 => ?_)
  · refine x_tableIn (off := 101) (tgt := 108) dX2_sign_7 (by omega) (by omega) (by omega) (by rw [c7]; rfl) rfl ?_
    refine x_iload_2 dX2_sign_108 ?_
    refine x_iret dX2_sign_109 rfl ?_
    refine x_q1 ?_ kk
    unfold sgB kdS
    (repeat' split) <;> omega
  refine x_cs (60) (fun c7 => ?_) (fun c7_60 => ?_)
  · refine x_tableIn (off := 101) (tgt := 108) dX2_sign_7 (by omega) (by omega) (by omega) (by rw [c7]; rfl) rfl ?_
    refine x_iload_2 dX2_sign_108 ?_
    refine x_iret dX2_sign_109 rfl ?_
    refine x_q1 ?_ kk
    unfold sgB kdS
    (repeat' split) <;> omega
  refine x_cs (61) (fun c7 => ?_) (fun c7_61 => ?_)
  · refine x_tableIn (off := 101) (tgt := 108) dX2_sign_7 (by omega) (by omega) (by omega) (by rw [c7]; rfl) rfl ?_
    refine x_iload_2 dX2_sign_108 ?_
    refine x_iret dX2_sign_109 rfl ?_
    refine x_q1 ?_ kk
    unfold sgB kdS
    (repeat' split) <;> omega
  refine x_cs (44) (fun c7 => ?_) (fun c7_44 => ?_)
  · refine x_tableIn (off := 103) (tgt := 110) dX2_sign_7 (by omega) (by omega) (by omega) (by rw [c7]; rfl) rfl ?_
    refine x_iconst dX2_sign_110 ?_
    refine x_iret dX2_sign_111 rfl ?_
    refine x_q1 ?_ kk
    unfold sgB kdS
    (repeat' split) <;> omega
  refine x_cs (46) (fun c7 => ?_) (fun c7_46 => ?_)
  · refine x_tableIn (off := 103) (tgt := 110) dX2_sign_7 (by omega) (by omega) (by omega) (by rw [c7]; rfl) rfl ?_
    refine x_iconst dX2_sign_110 ?_
    refine x_iret dX2_sign_111 rfl ?_
    refine x_q1 ?_ kk
    unfold sgB kdS
    (repeat' split) <;> omega
  refine x_cs (48) (fun c7 => ?_) (fun c7_48 => ?_)
  · refine x_tableIn (off := 103) (tgt := 110) dX2_sign_7 (by omega) (by omega) (by omega) (by rw [c7]; rfl) rfl ?_
    refine x_iconst dX2_sign_110 ?_
    refine x_iret dX2_sign_111 rfl ?_
    refine x_q1 ?_ kk
    unfold sgB kdS
    (repeat' split) <;> omega
  refine x_cs (49) (fun c7 => ?_) (fun c7_49 => ?_)
  · refine x_tableIn (off := 103) (tgt := 110) dX2_sign_7 (by omega) (by omega) (by omega) (by rw [c7]; rfl) rfl ?_
    refine x_iconst dX2_sign_110 ?_
    refine x_iret dX2_sign_111 rfl ?_
    refine x_q1 ?_ kk
    unfold sgB kdS
    (repeat' split) <;> omega
  refine x_cs (50) (fun c7 => ?_) (fun c7_50 => ?_)
  · refine x_tableIn (off := 103) (tgt := 110) dX2_sign_7 (by omega) (by omega) (by omega) (by rw [c7]; rfl) rfl ?_
    refine x_iconst dX2_sign_110 ?_
    refine x_iret dX2_sign_111 rfl ?_
    refine x_q1 ?_ kk
    unfold sgB kdS
    (repeat' split) <;> omega
  refine x_cs (51) (fun c7 => ?_) (fun c7_51 => ?_)
  · refine x_tableIn (off := 103) (tgt := 110) dX2_sign_7 (by omega) (by omega) (by omega) (by rw [c7]; rfl) rfl ?_
    refine x_iconst dX2_sign_110 ?_
    refine x_iret dX2_sign_111 rfl ?_
    refine x_q1 ?_ kk
    unfold sgB kdS
    (repeat' split) <;> omega
  refine x_cs (52) (fun c7 => ?_) (fun c7_52 => ?_)
  · refine x_tableIn (off := 103) (tgt := 110) dX2_sign_7 (by omega) (by omega) (by omega) (by rw [c7]; rfl) rfl ?_
    refine x_iconst dX2_sign_110 ?_
    refine x_iret dX2_sign_111 rfl ?_
    refine x_q1 ?_ kk
    unfold sgB kdS
    (repeat' split) <;> omega
  refine x_cs (53) (fun c7 => ?_) (fun c7_53 => ?_)
  · refine x_tableIn (off := 103) (tgt := 110) dX2_sign_7 (by omega) (by omega) (by omega) (by rw [c7]; rfl) rfl ?_
    refine x_iconst dX2_sign_110 ?_
    refine x_iret dX2_sign_111 rfl ?_
    refine x_q1 ?_ kk
    unfold sgB kdS
    (repeat' split) <;> omega
  refine x_cs (54) (fun c7 => ?_) (fun c7_54 => ?_)
  · refine x_tableIn (off := 103) (tgt := 110) dX2_sign_7 (by omega) (by omega) (by omega) (by rw [c7]; rfl) rfl ?_
    refine x_iconst dX2_sign_110 ?_
    refine x_iret dX2_sign_111 rfl ?_
    refine x_q1 ?_ kk
    unfold sgB kdS
    (repeat' split) <;> omega
  refine x_cs (55) (fun c7 => ?_) (fun c7_55 => ?_)
  · refine x_tableIn (off := 103) (tgt := 110) dX2_sign_7 (by omega) (by omega) (by omega) (by rw [c7]; rfl) rfl ?_
    refine x_iconst dX2_sign_110 ?_
    refine x_iret dX2_sign_111 rfl ?_
    refine x_q1 ?_ kk
    unfold sgB kdS
    (repeat' split) <;> omega
  refine x_cs (56) (fun c7 => ?_) (fun c7_56 => ?_)
  · refine x_tableIn (off := 103) (tgt := 110) dX2_sign_7 (by omega) (by omega) (by omega) (by rw [c7]; rfl) rfl ?_
    refine x_iconst dX2_sign_110 ?_
    refine x_iret dX2_sign_111 rfl ?_
    refine x_q1 ?_ kk
    unfold sgB kdS
    (repeat' split) <;> omega
  refine x_cs (57) (fun c7 => ?_) (fun c7_57 => ?_)
  · refine x_tableIn (off := 103) (tgt := 110) dX2_sign_7 (by omega) (by omega) (by omega) (by rw [c7]; rfl) rfl ?_
    refine x_iconst dX2_sign_110 ?_
    refine x_iret dX2_sign_111 rfl ?_
    refine x_q1 ?_ kk
    unfold sgB kdS
    (repeat' split) <;> omega
  refine x_cs (58) (fun c7 => ?_) (fun c7_58 => ?_)
  · refine x_tableIn (off := 103) (tgt := 110) dX2_sign_7 (by omega) (by omega) (by omega) (by rw [c7]; rfl) rfl ?_
    refine x_iconst dX2_sign_110 ?_
    refine x_iret dX2_sign_111 rfl ?_
    refine x_q1 ?_ kk
    unfold sgB kdS
    (repeat' split) <;> omega
  refine x_tableOut (tgt := 110) dX2_sign_7 (by omega) (by omega) rfl ?_
  refine x_iconst dX2_sign_110 ?_
  refine x_iret dX2_sign_111 rfl ?_
  refine x_q1 ?_ kk
  unfold sgB kdS
  (repeat' split) <;> omega
/-- ThreadTown's words -/
def WdL (L : am_L) (x : Int) : Prop := (∀ w, 0 ≤ w → w < 17 → fF L (x + 3) w = 11 + w) ∧ KwL L
theorem kwS_first : ∀ (n : Nat) (w0 w id : Int), w0 ≤ w → w < w0 + n → (∀ i, w0 ≤ i → i < w → kwN i ≠ id) → kwN w = id → kwS n w0 id = w
  | 0, _, _, _, _, _, _, _ => by omega
  | n + 1, w0, w, id, h0, h1, h2, h3 => by
    unfold kwS
    by_cases e : kwN w0 = id
    · rw [if_pos e]
      rcases Int.lt_or_le w0 w with q | q
      · exact absurd e (h2 w0 (Int.le_refl _) q)
      · omega
    · rw [if_neg e]
      refine kwS_first n (w0 + 1) w id ?_ (by omega) (fun i q1 q2 => h2 i (by omega) q2) h3
      rcases Int.lt_or_le w0 w with q | q
      · omega
      · exact absurd (by rw [show w0 = w by omega]; exact h3) e
theorem kwS_none : ∀ (n : Nat) (w0 id : Int), (∀ i, w0 ≤ i → i < w0 + n → kwN i ≠ id) → kwS n w0 id = -1
  | 0, _, _, _ => rfl
  | n + 1, w0, id, h => by
    unfold kwS
    rw [if_neg (h w0 (Int.le_refl _) (by omega))]
    exact kwS_none n (w0 + 1) id fun i q1 q2 => h i (by omega) (by omega)
set_option maxHeartbeats 1000000 in
theorem C_X2_word {a e id : Int} (hK : MkL L x) (hW : WdL L x) (hT : TpL h x D b) (ha : 0 ≤ a ∧ a ≤ e ∧ e ≤ D) (hl : ∀ i, a ≤ i → i < e → 97 ≤ b i ∧ b i ≤ 122) (hid : idN (fun i => b (a + i)) (e - a).toNat = id) (kk : Q (.inl [aI (kwOf id)]) L h) : am_C G mX2_word (d + 5) [aR (x + 2), aI a, aI e] L h Q := by
  have hT0 := hT
  obtain ⟨t1, t2, t3, t4⟩ := hT
  obtain ⟨hW1, hW2⟩ := hW
  refine x_start okX2_word rfl rfl rfl rfl ?_
  have hout : am_X G mX2_word (d + 5) 2 [aR (x + 2), aI a, aI e, aI 0, aU, aU] [] L h Q := by
    refine x_up2 17 (fun w u4 u5 => 0 ≤ w → w ≤ 17 → (∀ i, 0 ≤ i → i < w → kwN i ≠ id) → am_X G mX2_word (d + 5) 2 [aR (x + 2), aI a, aI e, aI w, u4, u5] [] L h Q) (fun w u4 u5 ih g0 g1 g2 => ?_) 0 aU aU (by omega) (by omega) (fun i z0 z1 => by omega)
    rcases Int.lt_or_le w 17 with hw | hw
    · obtain ⟨q1, q2, q3, q4, q5, q6⟩ := hW2 w g0 hw
      obtain ⟨w1, w2, w3⟩ := kw_ok ⟨g0, hw⟩
      have hin : ∀ s : Int, (s = 0 ∨ s = 1) → (s = 1 → kwM w = e - a) → (s = 0 → kwN w ≠ id) → am_X G mX2_word (d + 5) 36 [aR (x + 2), aI a, aI e, aI w, aI s, aI a] [] L h Q := by
        intro s s0 s1 s2
        rw [show [aR (x + 2), aI a, aI e, aI w, aI s, aI a] = [aR (x + 2), aI a, aI e, aI w, aI s, aI (a + 0)] by rw [Int.add_zero]]
        refine x_up1 (e - a) (fun i s => 0 ≤ i → i ≤ e - a → (s = 0 ∨ s = 1) → (s = 1 → kwM w = e - a ∧ ∀ j : Nat, (j : Int) < i → kwC w j = b (a + j)) → (s = 0 → kwN w ≠ id) → am_X G mX2_word (d + 5) 36 [aR (x + 2), aI a, aI e, aI w, aI s, aI (a + i)] [] L h Q) (fun i s ih2 y0 y1 y2 y3 y4 => ?_) 0 s (by omega) (by omega) s0 (fun z => ⟨s1 z, fun j z => by omega⟩) s2
        have hend : ((s = 0 ∨ e - a ≤ i) ∧ am_X G mX2_word (d + 5) 83 [aR (x + 2), aI a, aI e, aI w, aI s, aI (a + i)] [] L h Q) ∨ (s = 1 ∧ i < e - a) := by
          rcases y2 with y2 | y2
          · refine Or.inl ⟨Or.inl y2, ?_⟩
            refine x_iload4 dX2_word_83 ?_
            refine x_if_eq (tgt := 90) dX2_word_85 rfl (by omega) (fun c85 => ?_) (fun c85 => ?_)
            · refine x_iinc3 dX2_word_90 rfl ?_
              refine x_goto (tgt := 2) dX2_word_93 rfl ?_
              refine ih hw _ _ (by omega) (by omega) (fun j z0 z1 => ?_)
              rcases Int.lt_or_le j w with z | z
              · exact g2 j z0 z
              · rw [show j = w by omega]
                exact y4 y2
            · exact absurd y2 c85
          · rcases Int.lt_or_le i (e - a) with z | z
            · exact Or.inr ⟨y2, z⟩
            · refine Or.inl ⟨Or.inr z, ?_⟩
              have hkw : kwN w = id := by
                rw [w1, ← hid, (y3 y2).1]
                exact idN_cg _ fun j q => (y3 y2).2 j (by omega)
              refine x_iload4 dX2_word_83 ?_
              refine x_if_eq (tgt := 90) dX2_word_85 rfl (by omega) (fun c85 => ?_) (fun c85 => ?_)
              · exact absurd c85 (by omega)
              · refine x_iload_3 dX2_word_88 ?_
                refine x_iret dX2_word_89 rfl ?_
                refine x_q1 ?_ kk
                exact (kwS_first 17 0 w id g0 (by omega) g2 hkw).symm
        rcases hend with ⟨hz, hend⟩ | ⟨e1, e2⟩
        · skip
          refine x_iload5 dX2_word_36 ?_
          refine x_iload_2 dX2_word_38 ?_
          refine x_icmp_ge (tgt := 83) dX2_word_39 rfl (by omega) (by omega) (fun c39 => ?_) (fun c39 => ?_)
          · exact hend
          · refine x_iload4 dX2_word_42 ?_
            refine x_if_eq (tgt := 83) dX2_word_44 rfl (by omega) (fun c44 => ?_) (fun c44 => ?_)
            · exact hend
            · exfalso
              omega
        · obtain ⟨m1, m2⟩ := y3 e1
          have hch := w3 i.toNat (by omega)
          rw [show ((i.toNat : Nat) : Int) = i by omega] at hch
          have hbb := t3 (a + i) (by omega) (by omega)
          refine x_iload5 dX2_word_36 ?_
          refine x_iload_2 dX2_word_38 ?_
          refine x_icmp_ge (tgt := 83) dX2_word_39 rfl (by omega) (by omega) (fun c39 => ?_) (fun c39 => ?_)
          · exfalso; omega
          · refine x_iload4 dX2_word_42 ?_
            refine x_if_eq (tgt := 83) dX2_word_44 rfl (by omega) (fun c44 => ?_) (fun c44 => ?_)
            · exfalso; omega
            · refine x_aload_0 dX2_word_47 ?_
              refine x_getR dX2_word_48 fl259_2 rfl (by first | (exact MkL.k_tokens (by assumption)) | (assumption)) (by first | (exact MkL.v_words (by assumption)) | (assumption)) ?_
              refine x_iload_3 dX2_word_51 ?_
              refine x_aald dX2_word_52 (by first | (exact MkL.k_words (by assumption)) | (assumption)) (by decide) (by decide) (by first | (exact MkL.x_words (by assumption) (by omega) (by omega)) | (omega)) (by exact hW1 w (by omega) (by omega)) ?_
              refine x_iload5 dX2_word_53 ?_
              refine x_iload_1 dX2_word_55 ?_
              refine x_isub dX2_word_56 ?_
              refine x_callV1 dX2_word_57 rfl okJ9_charAt q694 q695 q696 (by assumption) am_k21 rfl (C_J9_charAt (i := a + i - a) (c := kwC w i) q1 q2 q3 q4 (by omega) (by omega) (by rw [show a + i - a = i by omega]; exact q6 i (by omega) (by omega)) hch (x_k1 ?_))
              refine x_aload_0 dX2_word_60 ?_
              refine x_getR dX2_word_61 fl260_2 rfl (by first | (exact MkL.k_tokens (by assumption)) | (assumption)) (by first | (exact MkL.v_tape (by assumption)) | (assumption)) ?_
              refine x_iload5 dX2_word_64 ?_
              refine x_bald_ dX2_word_66 (by first | (exact MkL.k_tape (by assumption)) | (assumption)) (by first | (exact MkL.x_tape (by assumption) (by omega) (by omega)) | (omega)) (fun r66 => ?_)
              rw [hbb] at r66 ⊢
              refine x_icmp_ne (tgt := 74) dX2_word_67 rfl (by omega) (by omega) (fun c67 => ?_) (fun c67 => ?_)
              · refine x_iconst dX2_word_74 ?_
                refine x_istore4 dX2_word_75 rfl ?_
                refine x_iinc5 dX2_word_77 rfl ?_
                refine x_goto (tgt := 36) dX2_word_80 rfl ?_
                rw [Int.add_assoc]
                refine ih2 (by omega) _ (by omega) (by omega) (by omega) (fun z => ?_) (fun z => ?_)
                · first
                    | exact absurd z (by decide)
                    | (refine ⟨m1, fun j z2 => ?_⟩
                       rcases Int.lt_or_le j i with z3 | z3
                       · exact m2 j z3
                       · rw [show (j : Int) = i by omega]
                         omega)
                · first
                    | exact absurd z (by decide)
                    | (rw [← hid, w1]
                       intro z2
                       have z3 := idN_inj _ _ w3 (fun j z => hl (a + j) (by omega) (by omega)) z2
                       have z4 := z3.2 i.toNat (by omega)
                       rw [show ((i.toNat : Nat) : Int) = i by omega] at z4
                       exact c67 z4)
              · refine x_iconst dX2_word_70 ?_
                refine x_goto (tgt := 75) dX2_word_71 rfl ?_
                refine x_istore4 dX2_word_75 rfl ?_
                refine x_iinc5 dX2_word_77 rfl ?_
                refine x_goto (tgt := 36) dX2_word_80 rfl ?_
                rw [Int.add_assoc]
                refine ih2 (by omega) _ (by omega) (by omega) (by omega) (fun z => ?_) (fun z => ?_)
                · first
                    | exact absurd z (by decide)
                    | (refine ⟨m1, fun j z2 => ?_⟩
                       rcases Int.lt_or_le j i with z3 | z3
                       · exact m2 j z3
                       · rw [show (j : Int) = i by omega]
                         omega)
                · first
                    | exact absurd z (by decide)
                    | (rw [← hid, w1]
                       intro z2
                       have z3 := idN_inj _ _ w3 (fun j z => hl (a + j) (by omega) (by omega)) z2
                       have z4 := z3.2 i.toNat (by omega)
                       rw [show ((i.toNat : Nat) : Int) = i by omega] at z4
                       exact c67 z4)
      refine x_iload_3 dX2_word_2 ?_
      refine x_aload_0 dX2_word_3 ?_
      refine x_getR dX2_word_4 fl259_2 rfl (by first | (exact MkL.k_tokens (by assumption)) | (assumption)) (by first | (exact MkL.v_words (by assumption)) | (assumption)) ?_
      refine x_alen dX2_word_7 (by exact hK.k_words) (by decide) (by decide) ?_
      rw [hK.l_words]
      refine x_icmp_ge (tgt := 96) dX2_word_8 rfl (by omega) (by omega) (fun c8 => ?_) (fun c8 => ?_)
      · exfalso; omega
      · refine x_aload_0 dX2_word_11 ?_
        refine x_getR dX2_word_12 fl259_2 rfl (by first | (exact MkL.k_tokens (by assumption)) | (assumption)) (by first | (exact MkL.v_words (by assumption)) | (assumption)) ?_
        refine x_iload_3 dX2_word_15 ?_
        refine x_aald dX2_word_16 (by first | (exact MkL.k_words (by assumption)) | (assumption)) (by decide) (by decide) (by first | (exact MkL.x_words (by assumption) (by omega) (by omega)) | (omega)) (by exact hW1 w (by omega) (by omega)) ?_
        refine x_callV0 dX2_word_17 rfl okJ9_length q684 q685 q686 (by assumption) am_k21 rfl (C_J9_length q1 q2 q3 q4 q5 (by omega) (x_k1 ?_))
        refine x_iload_2 dX2_word_20 ?_
        refine x_iload_1 dX2_word_21 ?_
        refine x_isub dX2_word_22 ?_
        refine x_icmp_ne (tgt := 30) dX2_word_23 rfl (by omega) (by omega) (fun c23 => ?_) (fun c23 => ?_)
        · refine x_iconst dX2_word_30 ?_
          refine x_istore4 dX2_word_31 rfl ?_
          refine x_iload_1 dX2_word_33 ?_
          refine x_istore5 dX2_word_34 rfl ?_
          refine hin _ (by omega) (fun z => ?_) (fun z => ?_)
          · first
              | exact absurd z (by decide)
              | omega
          · first
              | exact absurd z (by decide)
              | (rw [← hid, w1]
                 intro z2
                 have z3 := (idN_inj _ _ w3 (fun j z => hl (a + j) (by omega) (by omega)) z2).1
                 omega)
        · refine x_iconst dX2_word_26 ?_
          refine x_goto (tgt := 31) dX2_word_27 rfl ?_
          refine x_istore4 dX2_word_31 rfl ?_
          refine x_iload_1 dX2_word_33 ?_
          refine x_istore5 dX2_word_34 rfl ?_
          refine hin _ (by omega) (fun z => ?_) (fun z => ?_)
          · first
              | exact absurd z (by decide)
              | omega
          · first
              | exact absurd z (by decide)
              | (rw [← hid, w1]
                 intro z2
                 have z3 := (idN_inj _ _ w3 (fun j z => hl (a + j) (by omega) (by omega)) z2).1
                 omega)
    · skip
      refine x_iload_3 dX2_word_2 ?_
      refine x_aload_0 dX2_word_3 ?_
      refine x_getR dX2_word_4 fl259_2 rfl (by first | (exact MkL.k_tokens (by assumption)) | (assumption)) (by first | (exact MkL.v_words (by assumption)) | (assumption)) ?_
      refine x_alen dX2_word_7 (by exact hK.k_words) (by decide) (by decide) ?_
      rw [hK.l_words]
      refine x_icmp_ge (tgt := 96) dX2_word_8 rfl (by omega) (by omega) (fun c8 => ?_) (fun c8 => ?_)
      · refine x_iconst dX2_word_96 ?_
        refine x_iret dX2_word_97 rfl ?_
        refine x_q1 ?_ kk
        exact (kwS_none 17 0 id fun i z0 z1 => g2 i z0 (by omega)).symm
      · exfalso; omega
  refine x_iconst dX2_word_0 ?_
  refine x_istore_3 dX2_word_1 rfl ?_
  exact hout
end XTOK
