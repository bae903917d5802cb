/-! THREADTOWN READS: all tokens -/
set_option maxRecDepth 100000
theorem bI2b_id {z : Int} (h : -128 ≤ z ∧ z ≤ 127) : bI2b z = z := by
  unfold bI2b
  rw [Int32.toInt_toInt8, am_ti ⟨by omega, by omega⟩]
  exact Int.bmod_eq_of_le (by omega) (by omega)
theorem bI2s_id {z : Int} (h : -32768 ≤ z ∧ z ≤ 32767) : bI2s z = z := by
  unfold bI2s
  rw [Int32.toInt_toInt16, am_ti ⟨by omega, by omega⟩]
  exact Int.bmod_eq_of_le (by omega) (by omega)
section SPNF
variable {q : Int → Bool} {b : Int → Int} {D : Int}
theorem spn_skip {k : Int} (h0 : 0 ≤ k) (hD : D ≤ 2000) (h : k < D ∧ q (b k) = true) : spn q b D 2001 k = spn q b D 2001 (k + 1) := by
  refine spn_is (by omega) ?_ (fun i z0 z1 => ?_) (spn_end 2001 (k + 1) (by omega))
  · have := spn_le (q := q) (b := b) (D := D) 2001 (k + 1)
    omega
  · rcases Int.lt_or_le k i with e | e
    · exact spn_in 2001 (k + 1) i (by omega) z1
    · rw [show i = k by omega]
      exact h
theorem spn_stop {k : Int} (h : ¬ (k < D ∧ q (b k) = true)) : spn q b D 2001 k = k := if_neg h
end SPNF
def srt (k : Int) : Int := if k = 0 then 4 else if k = 1 then 0 else if k = 2 then 1 else if k = 3 then 5 else if k < 20 then 2 else 3
/-- the first n tokens, as ThreadTown holds them -/
def TkA (h : am_H) (x : Int) (b : Int → Int) (D n : Int) : Prop := ∀ i, 0 ≤ i → i < n → h (x + 5) i = srt (sK b D i) ∧ h (x + 6) i = sP b D i ∧ (sK b D i ≠ 0 → h (x + 7) i = tkE b D (sP b D i)) ∧ (4 ≤ sK b D i → h (x + 8) i = if sK b D i < 20 then b (sP b D i) else sK b D i - 20)
/-- a token added -/
def adH (h : am_H) (x n s a e w : Int) : am_H := am_st (am_st (am_st (am_st (am_st h (x + 5) n s) (x + 6) n a) (x + 7) n e) (x + 8) n w) (x + 2) 7 (n + 1)
section XTOK2
variable {G : am_G} {L : am_L} {h : am_H} {x D : Int} {b : Int → Int} {d : Nat} {Q : am_O → am_L → am_H → Prop}
theorem adH_5 {n s a e w i : Int} : adH h x n s a e w (x + 5) i = if i = n then s else h (x + 5) i := by
  unfold adH
  rw [am_st_o (by omega), am_st_o (by omega), am_st_o (by omega), am_st_o (by omega), am_st_at]
  simp only [true_and]
theorem adH_6 {n s a e w i : Int} : adH h x n s a e w (x + 6) i = if i = n then a else h (x + 6) i := by
  unfold adH
  rw [am_st_o (by omega), am_st_o (by omega), am_st_o (by omega), am_st_at, am_st_o (by omega)]
  simp only [true_and]
theorem adH_7 {n s a e w i : Int} : adH h x n s a e w (x + 7) i = if i = n then e else h (x + 7) i := by
  unfold adH
  rw [am_st_o (by omega), am_st_o (by omega), am_st_at, am_st_o (by omega), am_st_o (by omega)]
  simp only [true_and]
theorem adH_8 {n s a e w i : Int} : adH h x n s a e w (x + 8) i = if i = n then w else h (x + 8) i := by
  unfold adH
  rw [am_st_o (by omega), am_st_at, am_st_o (by omega), am_st_o (by omega), am_st_o (by omega)]
  simp only [true_and]
theorem adH_2 {n s a e w i : Int} : adH h x n s a e w (x + 2) i = if i = 7 then n + 1 else h (x + 2) i := by
  unfold adH
  rw [am_st_at, am_st_o (by omega), am_st_o (by omega), am_st_o (by omega), am_st_o (by omega)]
  simp only [true_and]
theorem adH_o {n s a e w y : Int} (h2 : y ≠ x + 2) (h5 : y ≠ x + 5) (h6 : y ≠ x + 6) (h7 : y ≠ x + 7) (h8 : y ≠ x + 8) : adH h x n s a e w y = h y := by
  unfold adH
  rw [am_st_o h2, am_st_o h8, am_st_o h7, am_st_o h6, am_st_o h5]
theorem C_X2_add {n s a e w : Int} (hK : MkL L x) (hn : h (x + 2) 7 = n) (hnn : 0 ≤ n ∧ n ≤ 2000) (hs : 0 ≤ s ∧ s ≤ 5) (ha : 0 ≤ a ∧ a ≤ 2000) (he : 0 ≤ e ∧ e ≤ 2000) (hw : -1 ≤ w ∧ w ≤ 127) (k : Q (.inl []) L (adH h x n s a e w)) : am_C G mX2_add (d + 1) [aR (x + 2), aI s, aI a, aI e, aI w] L h Q := by
  refine x_start okX2_add rfl rfl rfl rfl ?_
  refine x_aload_0 dX2_add_0 ?_
  refine x_getR dX2_add_1 fl264_2 rfl (by first | (exact MkL.k_tokens (by assumption)) | (assumption)) (by first | (exact MkL.v_sort (by assumption)) | (assumption)) ?_
  refine x_aload_0 dX2_add_4 ?_
  refine x_getI_ dX2_add_5 fl271_2 (by first | (exact MkL.k_tokens (by assumption)) | (assumption)) (fun r5 => ?_)
  simp (disch := omega) only [am_st_o, hn] at r5 ⊢
  refine x_iload_1 dX2_add_8 ?_
  refine x_i2b dX2_add_9 ?_
  rw [bI2b_id (by omega)]
  refine x_bast_ dX2_add_10 (by first | (exact MkL.k_sort (by assumption)) | (assumption)) (by first | (exact MkL.x_sort (by assumption) (by omega) (by omega)) | (omega)) (by omega) ?_
  refine x_aload_0 dX2_add_11 ?_
  refine x_getR dX2_add_12 fl266_2 rfl (by first | (exact MkL.k_tokens (by assumption)) | (assumption)) (by first | (exact MkL.v_from (by assumption)) | (assumption)) ?_
  refine x_aload_0 dX2_add_15 ?_
  refine x_getI_ dX2_add_16 fl271_2 (by first | (exact MkL.k_tokens (by assumption)) | (assumption)) (fun r16 => ?_)
  simp (disch := omega) only [am_st_o, hn] at r16 ⊢
  refine x_iload_2 dX2_add_19 ?_
  refine x_i2s dX2_add_20 ?_
  rw [bI2s_id (by omega)]
  refine x_sast_ dX2_add_21 (by first | (exact MkL.k_from (by assumption)) | (assumption)) (by first | (exact MkL.x_from (by assumption) (by omega) (by omega)) | (omega)) (by omega) ?_
  refine x_aload_0 dX2_add_22 ?_
  refine x_getR dX2_add_23 fl268_2 rfl (by first | (exact MkL.k_tokens (by assumption)) | (assumption)) (by first | (exact MkL.v_to (by assumption)) | (assumption)) ?_
  refine x_aload_0 dX2_add_26 ?_
  refine x_getI_ dX2_add_27 fl271_2 (by first | (exact MkL.k_tokens (by assumption)) | (assumption)) (fun r27 => ?_)
  simp (disch := omega) only [am_st_o, hn] at r27 ⊢
  refine x_iload_3 dX2_add_30 ?_
  refine x_i2s dX2_add_31 ?_
  rw [bI2s_id (by omega)]
  refine x_sast_ dX2_add_32 (by first | (exact MkL.k_to (by assumption)) | (assumption)) (by first | (exact MkL.x_to (by assumption) (by omega) (by omega)) | (omega)) (by omega) ?_
  refine x_aload_0 dX2_add_33 ?_
  refine x_getR dX2_add_34 fl269_2 rfl (by first | (exact MkL.k_tokens (by assumption)) | (assumption)) (by first | (exact MkL.v_what (by assumption)) | (assumption)) ?_
  refine x_aload_0 dX2_add_37 ?_
  refine x_getI_ dX2_add_38 fl271_2 (by first | (exact MkL.k_tokens (by assumption)) | (assumption)) (fun r38 => ?_)
  simp (disch := omega) only [am_st_o, hn] at r38 ⊢
  refine x_iload4 dX2_add_41 ?_
  refine x_i2s dX2_add_43 ?_
  rw [bI2s_id (by omega)]
  refine x_sast_ dX2_add_44 (by first | (exact MkL.k_what (by assumption)) | (assumption)) (by first | (exact MkL.x_what (by assumption) (by omega) (by omega)) | (omega)) (by omega) ?_
  refine x_aload_0 dX2_add_45 ?_
  refine x_dup dX2_add_46 rfl ?_
  refine x_getI_ dX2_add_47 fl271_2 (by first | (exact MkL.k_tokens (by assumption)) | (assumption)) (fun r47 => ?_)
  simp (disch := omega) only [am_st_o, hn] at r47 ⊢
  refine x_iconst dX2_add_50 ?_
  refine x_iadd dX2_add_51 ?_
  refine x_putI_ dX2_add_52 fl271_2 (by first | (exact MkL.k_tokens (by assumption)) | (assumption)) (by omega) ?_
  refine x_ret dX2_add_55 rfl ?_
  exact k
theorem TkA.add {n s a e w : Int} (r : TkA h x b D n) (hn : 0 ≤ n) (h5 : s = srt (sK b D n)) (h6 : a = sP b D n) (h7 : sK b D n ≠ 0 → e = tkE b D (sP b D n)) (h8 : 4 ≤ sK b D n → w = if sK b D n < 20 then b (sP b D n) else sK b D n - 20) : TkA (adH h x n s a e w) x b D (n + 1) := fun i z0 z1 => by
  rw [adH_5, adH_6, adH_7, adH_8]
  by_cases q : i = n
  · subst q
    rw [if_pos rfl, if_pos rfl, if_pos rfl, if_pos rfl]
    exact ⟨h5, h6, h7, h8⟩
  · rw [if_neg q, if_neg q, if_neg q, if_neg q]
    exact r i z0 (by omega)
theorem TpL.add {n s a e w : Int} (hT : TpL h x D b) : TpL (adH h x n s a e w) x D b := by
  obtain ⟨t1, t2, t3, t4⟩ := hT
  refine ⟨?_, t2, fun i z0 z1 => ?_, t4⟩
  · rw [adH_2, if_neg (by decide)]
    exact t1
  · rw [adH_o (by omega) (by omega) (by omega) (by omega) (by omega)]
    exact t3 i z0 z1
/-- a keyword has 6 letters at most -/
theorem kwOf_len {p : Int} (hp : p < D) (hc : isL (b p) = true) (hk : 0 ≤ kwOf (tkI b D p)) : tkL b D p ≤ 6 := by
  rcases kwOf_rg (tkI b D p) with q | ⟨q1, q2, q3⟩
  · omega
  · obtain ⟨w1, w2, w3⟩ := kw_ok ⟨q1, q2⟩
    rw [w1] at q3
    have hl := tkE_Li hp hc
    have := (idN_inj _ _ w3 (fun j z => by
      have := hl (p + j) (by omega) (by unfold tkL at z; omega)
      exact this.2) q3).1
    omega
set_option maxHeartbeats 2000000 in
theorem C_X2_read (hK : MkL L x) (hW : WdL L x) (hT : TpL h x D b) (k : ∀ h' N, (0 ≤ N ∧ N ≤ D) → (∀ i, 0 ≤ i → i < N → sK b D i ≠ 0 ∧ sK b D i ≠ 3) → (sK b D N = 0 ∨ sK b D N = 3) → TkA h' x b D (N + 1) → (∀ a, a ≠ x + 2 → a ≠ x + 5 → a ≠ x + 6 → a ≠ x + 7 → a ≠ x + 8 → h' a = h a) → (∀ j, j ≠ 7 → h' (x + 2) j = h (x + 2) j) → Q (.inl []) L h') : am_C G mX2_read (d + 6) [aR (x + 2)] L h Q := by
  refine x_start okX2_read rfl rfl rfl rfl ?_
  have hD := hT.2.1
  have main : ∀ (f : Nat) (p n g : Int) (hh : am_H), D - p < f → (0 ≤ p ∧ p ≤ D) → (0 ≤ n ∧ n ≤ p) → (g = 0 ∨ g = 1) → TpL hh x D b → hh (x + 2) 7 = n → TkA hh x b D n → (∀ i, 0 ≤ i → i < n → sK b D i ≠ 0) →
      (g = 1 → spn isW b D 2001 p = sP b D n ∧ ∀ i, 0 ≤ i → i < n → sK b D i ≠ 3) → (g = 0 → 0 < n ∧ sK b D (n - 1) = 3 ∧ ∀ i, 0 ≤ i → i < n - 1 → sK b D i ≠ 3) →
      (∀ a, a ≠ x + 2 → a ≠ x + 5 → a ≠ x + 6 → a ≠ x + 7 → a ≠ x + 8 → hh a = h a) → (∀ j, j ≠ 7 → hh (x + 2) j = h (x + 2) j) → am_X G mX2_read (d + 6) 9 [aR (x + 2), aI p, aI g, aU, aU, aU, aU] [] L hh Q := by
    intro f
    induction f with
    | zero => intro p n g hh c1 c2; omega
    | succ f ih =>
      intro p n g hh i1 i2 i3 i4 i5 i6 i7 i8 i9 i10 i11 i12
      have hend : ¬ (p < D ∧ g = 1) → am_X G mX2_read (d + 6) 215 [aR (x + 2), aI p, aI g, aU, aU, aU, aU] [] L hh Q := by
        intro hz
        rcases i4 with g0 | g0
        · obtain ⟨e1, e2, e3⟩ := i10 g0
          refine x_iload_2 dX2_read_215 ?_
          refine x_if_eq (tgt := 227) dX2_read_216 rfl (by omega) (fun c216 => ?_) (fun c216 => ?_)
          · refine x_ret dX2_read_227 rfl ?_
            exact k hh (n - 1) (by omega) (fun i z0 z1 => ⟨i8 i z0 (by omega), e3 i z0 z1⟩) (Or.inr e2) (by rw [show n - 1 + 1 = n by omega]; exact i7) i11 i12
          · exact absurd g0 c216
        · obtain ⟨e1, e2⟩ := i9 g0
          have hp : p = D := by omega
          rw [spn_stop (by omega)] at e1
          have e0 : sK b D n = 0 := sK_0.mpr (by omega)
          refine x_iload_2 dX2_read_215 ?_
          refine x_if_eq (tgt := 227) dX2_read_216 rfl (by omega) (fun c216 => ?_) (fun c216 => ?_)
          · first
            | exact absurd c216 (by omega)
            | (refine x_ret dX2_read_227 rfl ?_
               exact k _ n (by omega) (fun i z0 z1 => ⟨i8 i z0 z1, e2 i z0 z1⟩) (Or.inl e0) (i7.add i3.1 (by rw [e0]; rfl) e1 (fun z => absurd e0 z) (fun z => by omega)) (fun a z2 z5 z6 z7 z8 => by rw [adH_o z2 z5 z6 z7 z8]; exact i11 a z2 z5 z6 z7 z8) (fun j z => by rw [adH_2, if_neg z]; exact i12 j z))
          · refine x_aload_0 dX2_read_219 ?_
            refine x_iconst dX2_read_220 ?_
            refine x_iload_1 dX2_read_221 ?_
            refine x_iload_1 dX2_read_222 ?_
            refine x_iconst dX2_read_223 ?_
            refine x_callV4 dX2_read_224 rfl okX2_add q738 q740 qs8 (by first | assumption | (exact MkL.k_tokens (by assumption))) am_k2 rfl (C_X2_add hK i6 (by omega) (by omega) (by omega) (by omega) (by omega) (x_k0 ?_))
            first
            | exact absurd c216 (by omega)
            | (refine x_ret dX2_read_227 rfl ?_
               exact k _ n (by omega) (fun i z0 z1 => ⟨i8 i z0 z1, e2 i z0 z1⟩) (Or.inl e0) (i7.add i3.1 (by rw [e0]; rfl) e1 (fun z => absurd e0 z) (fun z => by omega)) (fun a z2 z5 z6 z7 z8 => by rw [adH_o z2 z5 z6 z7 z8]; exact i11 a z2 z5 z6 z7 z8) (fun j z => by rw [adH_2, if_neg z]; exact i12 j z))
      have t1 := i5.1
      by_cases hgo : p < D ∧ g = 1
      · obtain ⟨hp, hg⟩ := hgo
        subst hg
        obtain ⟨e1, e2⟩ := i9 rfl
        have t3 := i5.2.2.1 p i2.1 hp
        have t4 := i5.2.2.2 p i2.1 hp
        by_cases hw : isW (b p) = true
        · have hskip := spn_skip (q := isW) (b := b) i2.1 hD.2 ⟨hp, hw⟩
          have hw' : b p = 32 ∨ b p = 9 ∨ b p = 10 ∨ b p = 13 := of_decide_eq_true hw
          refine x_iload_1 dX2_read_9 ?_
          refine x_aload_0 dX2_read_10 ?_
          refine x_getI_ dX2_read_11 fl262_2 (by first | (exact MkL.k_tokens (by assumption)) | (assumption)) (fun r11 => ?_)
          rw [t1] at r11 ⊢
          refine x_icmp_ge (tgt := 215) dX2_read_14 rfl (by omega) (by omega) (fun c14 => ?_) (fun c14 => ?_)
          · exfalso; omega
          · refine x_iload_2 dX2_read_17 ?_
            refine x_if_eq (tgt := 215) dX2_read_18 rfl (by omega) (fun c18 => ?_) (fun c18 => ?_)
            · exfalso; omega
            · refine x_aload_0 dX2_read_21 ?_
              refine x_getR dX2_read_22 fl260_2 rfl (by first | (exact MkL.k_tokens (by assumption)) | (assumption)) (by first | (exact MkL.v_tape (by assumption)) | (assumption)) ?_
              refine x_iload_1 dX2_read_25 ?_
              refine x_bald_ dX2_read_26 (by first | (exact MkL.k_tape (by assumption)) | (assumption)) (by first | (exact MkL.x_tape (by assumption) (by omega) (by omega)) | (omega)) (fun r26 => ?_)
              rw [t3] at r26 ⊢
              refine x_istore_3 dX2_read_27 rfl ?_
              refine x_iload_1 dX2_read_28 ?_
              refine x_iconst dX2_read_29 ?_
              refine x_iadd dX2_read_30 ?_
              refine x_istore4 dX2_read_31 rfl ?_
              refine x_iload_3 dX2_read_33 ?_
              refine x_bipush dX2_read_34 rfl ?_
              refine x_icmp_eq (tgt := 57) dX2_read_36 rfl (by omega) (by omega) (fun c36 => ?_) (fun c36 => ?_)
              · refine x_iinc1 dX2_read_57 rfl ?_
                refine x_goto (tgt := 9) dX2_read_60 rfl ?_
                exact x_wk (by simp [wkL, aU]) <| ih (p + 1) n 1 hh (by omega) (by omega) (by omega) (Or.inr rfl) i5 i6 i7 i8 (fun _ => ⟨by rw [← hskip]; exact e1, e2⟩) (fun z => absurd z (by decide)) i11 i12
              · refine x_iload_3 dX2_read_39 ?_
                refine x_bipush dX2_read_40 rfl ?_
                refine x_icmp_eq (tgt := 57) dX2_read_42 rfl (by omega) (by omega) (fun c42 => ?_) (fun c42 => ?_)
                · refine x_iinc1 dX2_read_57 rfl ?_
                  refine x_goto (tgt := 9) dX2_read_60 rfl ?_
                  exact x_wk (by simp [wkL, aU]) <| ih (p + 1) n 1 hh (by omega) (by omega) (by omega) (Or.inr rfl) i5 i6 i7 i8 (fun _ => ⟨by rw [← hskip]; exact e1, e2⟩) (fun z => absurd z (by decide)) i11 i12
                · refine x_iload_3 dX2_read_45 ?_
                  refine x_bipush dX2_read_46 rfl ?_
                  refine x_icmp_eq (tgt := 57) dX2_read_48 rfl (by omega) (by omega) (fun c48 => ?_) (fun c48 => ?_)
                  · refine x_iinc1 dX2_read_57 rfl ?_
                    refine x_goto (tgt := 9) dX2_read_60 rfl ?_
                    exact x_wk (by simp [wkL, aU]) <| ih (p + 1) n 1 hh (by omega) (by omega) (by omega) (Or.inr rfl) i5 i6 i7 i8 (fun _ => ⟨by rw [← hskip]; exact e1, e2⟩) (fun z => absurd z (by decide)) i11 i12
                  · refine x_iload_3 dX2_read_51 ?_
                    refine x_bipush dX2_read_52 rfl ?_
                    refine x_icmp_ne (tgt := 63) dX2_read_54 rfl (by omega) (by omega) (fun c54 => ?_) (fun c54 => ?_)
                    · exfalso; omega
                    · refine x_iinc1 dX2_read_57 rfl ?_
                      refine x_goto (tgt := 9) dX2_read_60 rfl ?_
                      exact x_wk (by simp [wkL, aU]) <| ih (p + 1) n 1 hh (by omega) (by omega) (by omega) (Or.inr rfl) i5 i6 i7 i8 (fun _ => ⟨by rw [← hskip]; exact e1, e2⟩) (fun z => absurd z (by decide)) i11 i12
        · have hw' : ¬ (b p = 32 ∨ b p = 9 ∨ b p = 10 ∨ b p = 13) := fun z => hw (decide_eq_true z)
          rw [spn_stop (fun z => hw z.2)] at e1
          have hsk : sK b D n = tkK b D p := by unfold sK; rw [show tkP b D n.toNat = sP b D n from rfl, ← e1]
          have hle := tkE_le (b := b) i2.1 hp hD.2
          have h186 : ∀ s w e : Int, s = srt (tkK b D p) → e = tkE b D p → -1 ≤ w → w ≤ 127 → (4 ≤ tkK b D p → w = if tkK b D p < 20 then b p else tkK b D p - 20) → am_X G mX2_read (d + 6) 186 [aR (x + 2), aI p, aI 1, aI (b p), aI e, aI s, aI w] [] L hh Q := by
            intro s w e y0 y1 y2 y3 y4
            have hrg := tkK_rg b D p
            have hs5 : 0 ≤ s ∧ s ≤ 5 ∧ (s = 5 ↔ tkK b D p = 3) := by
              rw [y0]
              unfold srt
              (repeat' split) <;> omega
            have hk0 : tkK b D p ≠ 0 := by
              rw [← hsk]
              intro z
              have := sK_0.mp z
              omega
            have hnext : sP b D (n + 1) = spn isW b D 2001 e := by
              unfold sP
              rw [show (n + 1).toNat = n.toNat + 1 by omega, y1]
              show spn isW b D 2001 (tkE b D (sP b D n)) = _
              rw [← e1]
            have h9 : ∀ g : Int, g = (if s = 5 then 0 else 1) → am_X G mX2_read (d + 6) 9 [aR (x + 2), aI e, aI g, aI (b p), aI e, aI s, aI w] [] L (adH hh x n s p e w) Q := by
              intro g hg
              refine x_wk (by simp [wkL, aU]) <| ih e (n + 1) g _ (by omega) (by omega) (by omega) (by rw [hg]; split <;> omega) i5.add (by rw [adH_2, if_pos rfl]) (i7.add i3.1 (by rw [hsk]; exact y0) e1 (fun _ => by rw [← e1]; exact y1) (fun z => by rw [hsk] at z ⊢; rw [← e1]; exact y4 z)) (fun i z0 z1 => ?_) (fun z => ⟨hnext.symm, fun i z0 z1 => ?_⟩) (fun z => ⟨by omega, ?_, fun i z0 z1 => e2 i z0 (by omega)⟩) (fun a z2 z5 z6 z7 z8 => by rw [adH_o z2 z5 z6 z7 z8]; exact i11 a z2 z5 z6 z7 z8) (fun j z => by rw [adH_2, if_neg z]; exact i12 j z)
              · rcases Int.lt_or_le i n with q | q
                · exact i8 i z0 q
                · rw [show i = n by omega, hsk]
                  exact hk0
              · rcases Int.lt_or_le i n with q | q
                · exact e2 i z0 q
                · rw [show i = n by omega, hsk]
                  intro z9
                  rw [if_pos (hs5.2.2.mpr z9)] at hg
                  omega
              · rw [show n + 1 - 1 = n by omega, hsk]
                refine hs5.2.2.mp ?_
                by_cases z9 : s = 5
                · exact z9
                · rw [if_neg z9] at hg
                  omega
            refine x_aload_0 dX2_read_186 ?_
            refine x_iload5 dX2_read_187 ?_
            refine x_iload_1 dX2_read_189 ?_
            refine x_iload4 dX2_read_190 ?_
            refine x_iload6 dX2_read_192 ?_
            refine x_callV4 dX2_read_194 rfl okX2_add q738 q740 qs8 (by first | assumption | (exact MkL.k_tokens (by assumption))) am_k2 rfl (C_X2_add hK i6 (by omega) (by omega) (by omega) (by omega) (by omega) (x_k0 ?_))
            refine x_iload5 dX2_read_197 ?_
            refine x_iconst dX2_read_199 ?_
            refine x_icmp_eq (tgt := 207) dX2_read_200 rfl (by omega) (by omega) (fun c200 => ?_) (fun c200 => ?_)
            · refine x_iconst dX2_read_207 ?_
              refine x_istore_2 dX2_read_208 rfl ?_
              refine x_iload4 dX2_read_209 ?_
              refine x_istore_1 dX2_read_211 rfl ?_
              refine x_goto (tgt := 9) dX2_read_212 rfl ?_
              first
                | exact h9 _ (if_pos c200).symm
                | exact h9 _ (if_neg c200).symm
            · refine x_iconst dX2_read_203 ?_
              refine x_goto (tgt := 208) dX2_read_204 rfl ?_
              refine x_istore_2 dX2_read_208 rfl ?_
              refine x_iload4 dX2_read_209 ?_
              refine x_istore_1 dX2_read_211 rfl ?_
              refine x_goto (tgt := 9) dX2_read_212 rfl ?_
              first
                | exact h9 _ (if_pos c200).symm
                | exact h9 _ (if_neg c200).symm
          by_cases hl : isL (b p) = true
          · have hK' : tkK b D p = if 8 < tkL b D p then 3 else if 0 ≤ kwOf (tkI b D p) then 20 + kwOf (tkI b D p) else 1 := by
              unfold tkK
              rw [if_neg (by omega), if_pos hl]
            have h74 : am_X G mX2_read (d + 6) 74 [aR (x + 2), aI p, aI 1, aI (b p), aI (p + 1), aU, aI 0] [] L hh Q := by
              refine x_up0 D (fun e => p < e → e ≤ D → (∀ i, p ≤ i → i < e → i < D ∧ isL (b i) = true) → am_X G mX2_read (d + 6) 74 [aR (x + 2), aI p, aI 1, aI (b p), aI e, aU, aI 0] [] L hh Q) (fun e ihe y0 y1 y2 => ?_) (p + 1) (by omega) (by omega) (fun i z0 z1 => by rw [show i = p by omega]; exact ⟨hp, hl⟩)
              refine x_aload_0 dX2_read_74 ?_
              refine x_iload4 dX2_read_75 ?_
              refine x_callV1 dX2_read_77 rfl okX2_isLetter q672 q674 qs3 (by first | assumption | (exact MkL.k_tokens (by assumption))) am_k2 rfl (C_X2_isLetter hK i5 (by omega) (x_k1 ?_))
              refine x_if_eq (tgt := 89) dX2_read_80 rfl (by unfold ifL; split <;> omega) (fun c80 => ?_) (fun c80 => ?_)
              · have hz : ¬ (e < D ∧ isL (b e) = true) := by
                  unfold ifL at c80
                  split at c80
                  · exact absurd c80 (by decide)
                  · assumption
                have hE : tkE b D p = e := tkE_L i2.1 hD.2 hl (by omega) y2 hz
                have hkl := kwOf_len hp hl
                have hkr := kwOf_rg (tkI b D p)
                have hI : idN (fun i => b (p + i)) (e - p).toNat = tkI b D p := by
                  unfold tkI tkL
                  rw [hE]
                have hLn : tkL b D p = e - p := by unfold tkL; rw [hE]
                refine x_aload_0 dX2_read_89 ?_
                refine x_iload_1 dX2_read_90 ?_
                refine x_iload4 dX2_read_91 ?_
                refine x_callV2 dX2_read_93 rfl okX2_word q680 q682 qs5 (by first | assumption | (exact MkL.k_tokens (by assumption))) am_k2 rfl (C_X2_word hK hW i5 (by omega) (fun i z0 z1 => of_decide_eq_true (y2 i z0 z1).2) hI (x_k1 ?_))
                refine x_istore6 dX2_read_96 rfl ?_
                refine x_iload6 dX2_read_98 ?_
                refine x_if_lt (tgt := 107) dX2_read_100 rfl (by omega) (fun c100 => ?_) (fun c100 => ?_)
                · refine x_iload4 dX2_read_107 ?_
                  refine x_iload_1 dX2_read_109 ?_
                  refine x_isub dX2_read_110 ?_
                  refine x_bipush dX2_read_111 rfl ?_
                  refine x_icmp_le (tgt := 120) dX2_read_113 rfl (by omega) (by omega) (fun c113 => ?_) (fun c113 => ?_)
                  · refine x_iconst dX2_read_120 ?_
                    refine x_istore5 dX2_read_121 rfl ?_
                    refine x_goto (tgt := 186) dX2_read_123 rfl ?_
                    refine h186 _ _ _ ?_ hE.symm (by omega) (by omega) (fun z => ?_)
                    · rw [hK']
                      unfold srt
                      (repeat' split) <;> omega
                    · rw [hK'] at z ⊢
                      (repeat' split at z) <;> (repeat' split) <;> omega
                  · refine x_iconst dX2_read_116 ?_
                    refine x_goto (tgt := 121) dX2_read_117 rfl ?_
                    refine x_istore5 dX2_read_121 rfl ?_
                    refine x_goto (tgt := 186) dX2_read_123 rfl ?_
                    refine h186 _ _ _ ?_ hE.symm (by omega) (by omega) (fun z => ?_)
                    · rw [hK']
                      unfold srt
                      (repeat' split) <;> omega
                    · rw [hK'] at z ⊢
                      (repeat' split at z) <;> (repeat' split) <;> omega
                · refine x_iconst dX2_read_103 ?_
                  refine x_goto (tgt := 121) dX2_read_104 rfl ?_
                  refine x_istore5 dX2_read_121 rfl ?_
                  refine x_goto (tgt := 186) dX2_read_123 rfl ?_
                  refine h186 _ _ _ ?_ hE.symm (by omega) (by omega) (fun z => ?_)
                  · rw [hK']
                    unfold srt
                    (repeat' split) <;> omega
                  · rw [hK'] at z ⊢
                    (repeat' split at z) <;> (repeat' split) <;> omega
              · refine x_iinc4 dX2_read_83 rfl ?_
                refine x_goto (tgt := 74) dX2_read_86 rfl ?_
                have hz : e < D ∧ isL (b e) = true := by
                  unfold ifL at c80
                  split at c80
                  · assumption
                  · exact absurd rfl c80
                refine ihe hz.1 (by omega) (by omega) (fun i z0 z1 => ?_)
                rcases Int.lt_or_le i e with q | q
                · exact y2 i z0 q
                · rw [show i = e by omega]
                  exact hz
            refine x_iload_1 dX2_read_9 ?_
            refine x_aload_0 dX2_read_10 ?_
            refine x_getI_ dX2_read_11 fl262_2 (by first | (exact MkL.k_tokens (by assumption)) | (assumption)) (fun r11 => ?_)
            rw [t1] at r11 ⊢
            refine x_icmp_ge (tgt := 215) dX2_read_14 rfl (by omega) (by omega) (fun c14 => ?_) (fun c14 => ?_)
            · exfalso; omega
            · refine x_iload_2 dX2_read_17 ?_
              refine x_if_eq (tgt := 215) dX2_read_18 rfl (by omega) (fun c18 => ?_) (fun c18 => ?_)
              · exfalso; omega
              · refine x_aload_0 dX2_read_21 ?_
                refine x_getR dX2_read_22 fl260_2 rfl (by first | (exact MkL.k_tokens (by assumption)) | (assumption)) (by first | (exact MkL.v_tape (by assumption)) | (assumption)) ?_
                refine x_iload_1 dX2_read_25 ?_
                refine x_bald_ dX2_read_26 (by first | (exact MkL.k_tape (by assumption)) | (assumption)) (by first | (exact MkL.x_tape (by assumption) (by omega) (by omega)) | (omega)) (fun r26 => ?_)
                rw [t3] at r26 ⊢
                refine x_istore_3 dX2_read_27 rfl ?_
                refine x_iload_1 dX2_read_28 ?_
                refine x_iconst dX2_read_29 ?_
                refine x_iadd dX2_read_30 ?_
                refine x_istore4 dX2_read_31 rfl ?_
                refine x_iload_3 dX2_read_33 ?_
                refine x_bipush dX2_read_34 rfl ?_
                refine x_icmp_eq (tgt := 57) dX2_read_36 rfl (by omega) (by omega) (fun c36 => ?_) (fun c36 => ?_)
                · exfalso; omega
                · refine x_iload_3 dX2_read_39 ?_
                  refine x_bipush dX2_read_40 rfl ?_
                  refine x_icmp_eq (tgt := 57) dX2_read_42 rfl (by omega) (by omega) (fun c42 => ?_) (fun c42 => ?_)
                  · exfalso; omega
                  · refine x_iload_3 dX2_read_45 ?_
                    refine x_bipush dX2_read_46 rfl ?_
                    refine x_icmp_eq (tgt := 57) dX2_read_48 rfl (by omega) (by omega) (fun c48 => ?_) (fun c48 => ?_)
                    · exfalso; omega
                    · refine x_iload_3 dX2_read_51 ?_
                      refine x_bipush dX2_read_52 rfl ?_
                      refine x_icmp_ne (tgt := 63) dX2_read_54 rfl (by omega) (by omega) (fun c54 => ?_) (fun c54 => ?_)
                      · refine x_iconst dX2_read_63 ?_
                        refine x_istore6 dX2_read_64 rfl ?_
                        refine x_aload_0 dX2_read_66 ?_
                        refine x_iload_1 dX2_read_67 ?_
                        refine x_callV1 dX2_read_68 rfl okX2_isLetter q672 q674 qs3 (by first | assumption | (exact MkL.k_tokens (by assumption))) am_k2 rfl (C_X2_isLetter hK i5 (by omega) (x_k1 ?_))
                        refine x_if_eq (tgt := 126) dX2_read_71 rfl (by unfold ifL; split <;> omega) (fun c71 => ?_) (fun c71 => ?_)
                        · unfold ifL at c71
                          rw [if_pos ⟨hp, hl⟩] at c71
                          exact absurd c71 (by decide)
                        · exact h74
                      · exfalso; omega
          · have hlN : ifL b D p = 0 := if_neg (fun z => hl z.2)
            by_cases hd : isG (b p) = true
            · have hK' : tkK b D p = if 4 < tkL b D p then 3 else 2 := by
                unfold tkK
                rw [if_neg (by omega), if_neg hl, if_pos hd]
              have h134 : am_X G mX2_read (d + 6) 134 [aR (x + 2), aI p, aI 1, aI (b p), aI (p + 1), aU, aI 0] [] L hh Q := by
                refine x_up0 D (fun e => p < e → e ≤ D → (∀ i, p ≤ i → i < e → i < D ∧ isG (b i) = true) → am_X G mX2_read (d + 6) 134 [aR (x + 2), aI p, aI 1, aI (b p), aI e, aU, aI 0] [] L hh Q) (fun e ihe y0 y1 y2 => ?_) (p + 1) (by omega) (by omega) (fun i z0 z1 => by rw [show i = p by omega]; exact ⟨hp, hd⟩)
                refine x_aload_0 dX2_read_134 ?_
                refine x_iload4 dX2_read_135 ?_
                refine x_callV1 dX2_read_137 rfl okX2_isDigit q730 q732 qs6 (by first | assumption | (exact MkL.k_tokens (by assumption))) am_k2 rfl (C_X2_isDigit hK i5 (by omega) (x_k1 ?_))
                refine x_if_eq (tgt := 149) dX2_read_140 rfl (by unfold ifG; split <;> omega) (fun c140 => ?_) (fun c140 => ?_)
                · have hz : ¬ (e < D ∧ isG (b e) = true) := by
                    unfold ifG at c140
                    split at c140
                    · exact absurd c140 (by decide)
                    · assumption
                  have hE : tkE b D p = e := tkE_G i2.1 hD.2 hl hd (by omega) y2 hz
                  have hLn : tkL b D p = e - p := by unfold tkL; rw [hE]
                  refine x_iload4 dX2_read_149 ?_
                  refine x_iload_1 dX2_read_151 ?_
                  refine x_isub dX2_read_152 ?_
                  refine x_iconst dX2_read_153 ?_
                  refine x_icmp_le (tgt := 161) dX2_read_154 rfl (by omega) (by omega) (fun c154 => ?_) (fun c154 => ?_)
                  · refine x_iconst dX2_read_161 ?_
                    refine x_istore5 dX2_read_162 rfl ?_
                    refine x_goto (tgt := 186) dX2_read_164 rfl ?_
                    refine h186 _ _ _ ?_ hE.symm (by omega) (by omega) (fun z => ?_)
                    · rw [hK']
                      unfold srt
                      (repeat' split) <;> omega
                    · rw [hK'] at z
                      exfalso
                      split at z <;> omega
                  · refine x_iconst dX2_read_157 ?_
                    refine x_goto (tgt := 162) dX2_read_158 rfl ?_
                    refine x_istore5 dX2_read_162 rfl ?_
                    refine x_goto (tgt := 186) dX2_read_164 rfl ?_
                    refine h186 _ _ _ ?_ hE.symm (by omega) (by omega) (fun z => ?_)
                    · rw [hK']
                      unfold srt
                      (repeat' split) <;> omega
                    · rw [hK'] at z
                      exfalso
                      split at z <;> omega
                · refine x_iinc4 dX2_read_143 rfl ?_
                  refine x_goto (tgt := 134) dX2_read_146 rfl ?_
                  have hz : e < D ∧ isG (b e) = true := by
                    unfold ifG at c140
                    split at c140
                    · assumption
                    · exact absurd rfl c140
                  refine ihe hz.1 (by omega) (by omega) (fun i z0 z1 => ?_)
                  rcases Int.lt_or_le i e with q | q
                  · exact y2 i z0 q
                  · rw [show i = e by omega]
                    exact hz
              refine x_iload_1 dX2_read_9 ?_
              refine x_aload_0 dX2_read_10 ?_
              refine x_getI_ dX2_read_11 fl262_2 (by first | (exact MkL.k_tokens (by assumption)) | (assumption)) (fun r11 => ?_)
              rw [t1] at r11 ⊢
              refine x_icmp_ge (tgt := 215) dX2_read_14 rfl (by omega) (by omega) (fun c14 => ?_) (fun c14 => ?_)
              · exfalso; omega
              · refine x_iload_2 dX2_read_17 ?_
                refine x_if_eq (tgt := 215) dX2_read_18 rfl (by omega) (fun c18 => ?_) (fun c18 => ?_)
                · exfalso; omega
                · refine x_aload_0 dX2_read_21 ?_
                  refine x_getR dX2_read_22 fl260_2 rfl (by first | (exact MkL.k_tokens (by assumption)) | (assumption)) (by first | (exact MkL.v_tape (by assumption)) | (assumption)) ?_
                  refine x_iload_1 dX2_read_25 ?_
                  refine x_bald_ dX2_read_26 (by first | (exact MkL.k_tape (by assumption)) | (assumption)) (by first | (exact MkL.x_tape (by assumption) (by omega) (by omega)) | (omega)) (fun r26 => ?_)
                  rw [t3] at r26 ⊢
                  refine x_istore_3 dX2_read_27 rfl ?_
                  refine x_iload_1 dX2_read_28 ?_
                  refine x_iconst dX2_read_29 ?_
                  refine x_iadd dX2_read_30 ?_
                  refine x_istore4 dX2_read_31 rfl ?_
                  refine x_iload_3 dX2_read_33 ?_
                  refine x_bipush dX2_read_34 rfl ?_
                  refine x_icmp_eq (tgt := 57) dX2_read_36 rfl (by omega) (by omega) (fun c36 => ?_) (fun c36 => ?_)
                  · exfalso; omega
                  · refine x_iload_3 dX2_read_39 ?_
                    refine x_bipush dX2_read_40 rfl ?_
                    refine x_icmp_eq (tgt := 57) dX2_read_42 rfl (by omega) (by omega) (fun c42 => ?_) (fun c42 => ?_)
                    · exfalso; omega
                    · refine x_iload_3 dX2_read_45 ?_
                      refine x_bipush dX2_read_46 rfl ?_
                      refine x_icmp_eq (tgt := 57) dX2_read_48 rfl (by omega) (by omega) (fun c48 => ?_) (fun c48 => ?_)
                      · exfalso; omega
                      · refine x_iload_3 dX2_read_51 ?_
                        refine x_bipush dX2_read_52 rfl ?_
                        refine x_icmp_ne (tgt := 63) dX2_read_54 rfl (by omega) (by omega) (fun c54 => ?_) (fun c54 => ?_)
                        · refine x_iconst dX2_read_63 ?_
                          refine x_istore6 dX2_read_64 rfl ?_
                          refine x_aload_0 dX2_read_66 ?_
                          refine x_iload_1 dX2_read_67 ?_
                          refine x_callV1 dX2_read_68 rfl okX2_isLetter q672 q674 qs3 (by first | assumption | (exact MkL.k_tokens (by assumption))) am_k2 rfl (C_X2_isLetter hK i5 (by omega) (x_k1 ?_))
                          rw [hlN]
                          refine x_if_eq (tgt := 126) dX2_read_71 rfl (by omega) (fun c71 => ?_) (fun c71 => ?_)
                          · refine x_aload_0 dX2_read_126 ?_
                            refine x_iload_1 dX2_read_127 ?_
                            refine x_callV1 dX2_read_128 rfl okX2_isDigit q730 q732 qs6 (by first | assumption | (exact MkL.k_tokens (by assumption))) am_k2 rfl (C_X2_isDigit hK i5 (by omega) (x_k1 ?_))
                            refine x_if_eq (tgt := 167) dX2_read_131 rfl (by unfold ifG; split <;> omega) (fun c131 => ?_) (fun c131 => ?_)
                            · unfold ifG at c131
                              rw [if_pos ⟨hp, hd⟩] at c131
                              exact absurd c131 (by decide)
                            · exact h134
                          · exact absurd rfl c71
                        · exfalso; omega
            · have hdN : ifG b D p = 0 := if_neg (fun z => hd z.2)
              have hK' : tkK b D p = kdS (b p) := by
                unfold tkK
                rw [if_neg (by omega), if_neg hl, if_neg hd]
              have hE := tkE_S (D := D) hl hd
              have hsg : -1 ≤ sgB (b p) ∧ sgB (b p) ≤ 127 ∧ (sgB (b p) = 0 ↔ kdS (b p) = 3) ∧ (sgB (b p) ≠ 0 → sgB (b p) = b p) := by
                unfold sgB kdS
                (repeat' split) <;> omega
              have hkr := kdS_rg (b p)
              refine x_iload_1 dX2_read_9 ?_
              refine x_aload_0 dX2_read_10 ?_
              refine x_getI_ dX2_read_11 fl262_2 (by first | (exact MkL.k_tokens (by assumption)) | (assumption)) (fun r11 => ?_)
              rw [t1] at r11 ⊢
              refine x_icmp_ge (tgt := 215) dX2_read_14 rfl (by omega) (by omega) (fun c14 => ?_) (fun c14 => ?_)
              · exfalso; omega
              · refine x_iload_2 dX2_read_17 ?_
                refine x_if_eq (tgt := 215) dX2_read_18 rfl (by omega) (fun c18 => ?_) (fun c18 => ?_)
                · exfalso; omega
                · refine x_aload_0 dX2_read_21 ?_
                  refine x_getR dX2_read_22 fl260_2 rfl (by first | (exact MkL.k_tokens (by assumption)) | (assumption)) (by first | (exact MkL.v_tape (by assumption)) | (assumption)) ?_
                  refine x_iload_1 dX2_read_25 ?_
                  refine x_bald_ dX2_read_26 (by first | (exact MkL.k_tape (by assumption)) | (assumption)) (by first | (exact MkL.x_tape (by assumption) (by omega) (by omega)) | (omega)) (fun r26 => ?_)
                  rw [t3] at r26 ⊢
                  refine x_istore_3 dX2_read_27 rfl ?_
                  refine x_iload_1 dX2_read_28 ?_
                  refine x_iconst dX2_read_29 ?_
                  refine x_iadd dX2_read_30 ?_
                  refine x_istore4 dX2_read_31 rfl ?_
                  refine x_iload_3 dX2_read_33 ?_
                  refine x_bipush dX2_read_34 rfl ?_
                  refine x_icmp_eq (tgt := 57) dX2_read_36 rfl (by omega) (by omega) (fun c36 => ?_) (fun c36 => ?_)
                  · exfalso; omega
                  · refine x_iload_3 dX2_read_39 ?_
                    refine x_bipush dX2_read_40 rfl ?_
                    refine x_icmp_eq (tgt := 57) dX2_read_42 rfl (by omega) (by omega) (fun c42 => ?_) (fun c42 => ?_)
                    · exfalso; omega
                    · refine x_iload_3 dX2_read_45 ?_
                      refine x_bipush dX2_read_46 rfl ?_
                      refine x_icmp_eq (tgt := 57) dX2_read_48 rfl (by omega) (by omega) (fun c48 => ?_) (fun c48 => ?_)
                      · exfalso; omega
                      · refine x_iload_3 dX2_read_51 ?_
                        refine x_bipush dX2_read_52 rfl ?_
                        refine x_icmp_ne (tgt := 63) dX2_read_54 rfl (by omega) (by omega) (fun c54 => ?_) (fun c54 => ?_)
                        · refine x_iconst dX2_read_63 ?_
                          refine x_istore6 dX2_read_64 rfl ?_
                          refine x_aload_0 dX2_read_66 ?_
                          refine x_iload_1 dX2_read_67 ?_
                          refine x_callV1 dX2_read_68 rfl okX2_isLetter q672 q674 qs3 (by first | assumption | (exact MkL.k_tokens (by assumption))) am_k2 rfl (C_X2_isLetter hK i5 (by omega) (x_k1 ?_))
                          rw [hlN]
                          refine x_if_eq (tgt := 126) dX2_read_71 rfl (by omega) (fun c71 => ?_) (fun c71 => ?_)
                          · refine x_aload_0 dX2_read_126 ?_
                            refine x_iload_1 dX2_read_127 ?_
                            refine x_callV1 dX2_read_128 rfl okX2_isDigit q730 q732 qs6 (by first | assumption | (exact MkL.k_tokens (by assumption))) am_k2 rfl (C_X2_isDigit hK i5 (by omega) (x_k1 ?_))
                            rw [hdN]
                            refine x_if_eq (tgt := 167) dX2_read_131 rfl (by omega) (fun c131 => ?_) (fun c131 => ?_)
                            · refine x_aload_0 dX2_read_167 ?_
                              refine x_iload_1 dX2_read_168 ?_
                              refine x_callV1 dX2_read_169 rfl okX2_sign q734 q736 qs7 (by first | assumption | (exact MkL.k_tokens (by assumption))) am_k2 rfl (C_X2_sign hK i5 (by omega) (x_k1 ?_))
                              refine x_istore6 dX2_read_172 rfl ?_
                              refine x_iload6 dX2_read_174 ?_
                              refine x_if_ne (tgt := 183) dX2_read_176 rfl (by omega) (fun c176 => ?_) (fun c176 => ?_)
                              · refine x_iconst dX2_read_183 ?_
                                refine x_istore5 dX2_read_184 rfl ?_
                                refine h186 _ _ _ ?_ hE.symm (by omega) (by omega) (fun z => ?_)
                                · rw [hK']
                                  unfold srt
                                  (repeat' split) <;> omega
                                · rw [hK'] at z ⊢
                                  rw [if_pos (by omega)]
                                  exact hsg.2.2.2 (by omega)
                              · refine x_iconst dX2_read_179 ?_
                                refine x_goto (tgt := 184) dX2_read_180 rfl ?_
                                refine x_istore5 dX2_read_184 rfl ?_
                                refine h186 _ _ _ ?_ hE.symm (by omega) (by omega) (fun z => ?_)
                                · rw [hK']
                                  unfold srt
                                  (repeat' split) <;> omega
                                · rw [hK'] at z ⊢
                                  rw [if_pos (by omega)]
                                  exact hsg.2.2.2 (by omega)
                            · exact absurd rfl c131
                          · exact absurd rfl c71
                        · exfalso; omega
      · have hz := hend hgo
        refine x_iload_1 dX2_read_9 ?_
        refine x_aload_0 dX2_read_10 ?_
        refine x_getI_ dX2_read_11 fl262_2 (by first | (exact MkL.k_tokens (by assumption)) | (assumption)) (fun r11 => ?_)
        rw [t1] at r11 ⊢
        refine x_icmp_ge (tgt := 215) dX2_read_14 rfl (by omega) (by omega) (fun c14 => ?_) (fun c14 => ?_)
        · exact hz
        · refine x_iload_2 dX2_read_17 ?_
          refine x_if_eq (tgt := 215) dX2_read_18 rfl (by omega) (fun c18 => ?_) (fun c18 => ?_)
          · exact hz
          · exfalso; omega
  refine x_aload_0 dX2_read_0 ?_
  refine x_iconst dX2_read_1 ?_
  refine x_putI_ dX2_read_2 fl271_2 (by first | (exact MkL.k_tokens (by assumption)) | (assumption)) (by omega) ?_
  refine x_iconst dX2_read_5 ?_
  refine x_istore_1 dX2_read_6 rfl ?_
  refine x_iconst dX2_read_7 ?_
  refine x_istore_2 dX2_read_8 rfl ?_
  refine main 3000 0 0 1 _ (by omega) (by omega) (by omega) (Or.inr rfl) ?_ (by rw [am_st_s]) (fun i z0 z1 => by omega) (fun i z0 z1 => by omega) (fun _ => ⟨rfl, fun i z0 z1 => by omega⟩) (fun z => absurd z (by decide)) (fun a z2 z5 z6 z7 z8 => am_st_o z2) (fun j z => am_st_i z)
  obtain ⟨t1, t2, t3, t4⟩ := hT
  exact ⟨by rw [am_st_i (by decide)]; exact t1, t2, fun i z0 z1 => by rw [am_st_o (by omega)]; exact t3 i z0 z1, t4⟩
end XTOK2
