/-! THREADTOWN READS: the parser's small methods -/
set_option maxRecDepth 100000
section XPAR
variable {G : am_G} {L L' L2 : am_L} {h h' h2 : am_H} {x D N a c : Int} {b : Int → Int} {d : Nat} {Q : am_O → am_L → am_H → Prop}
/-- the tokens that the parser goes by: 0 .. N, the last of them the end or a bad one -/
def RdX (L : am_L) (h : am_H) (x : Int) (b : Int → Int) (D N : Int) : Prop := MkL L x ∧ (200 ≤ x ∧ x + 1205 ≤ nx L) ∧ (0 ≤ D ∧ D ≤ 2000) ∧ (∀ i, 0 ≤ i → i < D → h (x + 4) i = b i) ∧ TkA h x b D (N + 1) ∧ (0 ≤ N ∧ N ≤ D) ∧ (∀ i, 0 ≤ i → i < N → sK b D i ≠ 0 ∧ sK b D i ≠ 3) ∧ (sK b D N = 0 ∨ sK b D N = 3)
/-- what is made, what is written: c tokens' worth -/
def XG (L : am_L) (h : am_H) (L' : am_L) (h' : am_H) (x c : Int) : Prop := LB L L' (nx L) ∧ (nx L ≤ nx L' ∧ nx L' ≤ nx L + 10 * c) ∧ us L' ≤ us L + 100 * c ∧ ∀ a, a < nx L → a ≠ x + 9 → a ≠ x + 1 → h' a = h a
theorem XG.tr {c1 c2 : Int} (r : XG L h L' h' x c1) (s : XG L' h' L2 h2 x c2) (hc : c1 + c2 ≤ c) : XG L h L2 h2 x c :=
  ⟨r.1.tr s.1 r.2.1.1, ⟨by have := r.2.1; have := s.2.1; omega, by have := r.2.1; have := s.2.1; omega⟩, by have := r.2.2.1; have := s.2.2.1; omega, fun a z0 z1 z2 => (s.2.2.2 a (by have := r.2.1; omega) z1 z2).trans (r.2.2.2 a z0 z1 z2)⟩
theorem XG.rf (L : am_L) (h : am_H) (x : Int) : XG L h L h x 0 := ⟨LB.rf _ _, ⟨Int.le_refl _, by omega⟩, by omega, fun _ _ _ _ => rfl⟩
theorem XG.le {c1 : Int} (r : XG L h L' h' x c1) (hc : c1 ≤ c) : XG L h L' h' x c := ⟨r.1, ⟨r.2.1.1, by have := r.2.1; omega⟩, by have := r.2.2.1; omega, r.2.2.2⟩
theorem XG.st9 {c1 j v : Int} (r : XG L h L' h' x c1) : XG L h L' (am_st h' (x + 9) j v) x c1 := ⟨r.1, r.2.1, r.2.2.1, fun a z0 z1 z2 => by rw [am_st_o z1]; exact r.2.2.2 a z0 z1 z2⟩
/-- the fault tells n, at place p -/
def fltH (h : am_H) (x n p : Int) : am_H := am_st (am_st h (x + 1) 6 n) (x + 1) 7 p
theorem fltH_6 {n p : Int} : fltH h x n p (x + 1) 6 = n := by unfold fltH; rw [am_st_i (by decide), am_st_s]
theorem fltH_7 {n p : Int} : fltH h x n p (x + 1) 7 = p := by unfold fltH; rw [am_st_s]
theorem fltH_o {n p y : Int} (hy : y ≠ x + 1) : fltH h x n p y = h y := by unfold fltH; rw [am_st_o hy, am_st_o hy]
theorem XG.flt {c1 n p : Int} (r : XG L h L' h' x c1) : XG L h L' (fltH h' x n p) x c1 := ⟨r.1, r.2.1, r.2.2.1, fun a z0 z1 z2 => by rw [fltH_o z2]; exact r.2.2.2 a z0 z1 z2⟩
theorem RdX.up (r : RdX L h x b D N) (g : XG L h L' h' x c) : RdX L' h' x b D N := by
  obtain ⟨r1, r2, r3, r4, r5, r6, r7, r8⟩ := r
  obtain ⟨g1, g2, g3, g4⟩ := g
  refine ⟨r1.lb g1 r2.2, ⟨r2.1, by omega⟩, r3, fun i z0 z1 => ?_, fun i z0 z1 => ?_, r6, r7, r8⟩
  · rw [g4 _ (by omega) (by omega) (by omega)]
    exact r4 i z0 z1
  · rw [g4 (x + 5) (by omega) (by omega) (by omega), g4 (x + 6) (by omega) (by omega) (by omega), g4 (x + 7) (by omega) (by omega) (by omega), g4 (x + 8) (by omega) (by omega) (by omega)]
    exact r5 i z0 z1
theorem RdX.mk (r : RdX L h x b D N) : MkL L x := r.1
theorem RdX.st9 {j v : Int} (r : RdX L h x b D N) : RdX L (am_st h (x + 9) j v) x b D N := r.up (XG.rf L h x).st9
/-- the token a is one of them -/
def inN (N a : Int) : Prop := (0 ≤ a ∧ a ≤ N) ∧ a ≤ 400
theorem RdX.tk (r : RdX L h x b D N) (ha : 0 ≤ a ∧ a ≤ N) : h (x + 5) a = srt (sK b D a) ∧ h (x + 6) a = sP b D a ∧ (sK b D a ≠ 0 → h (x + 7) a = tkE b D (sP b D a)) ∧ (4 ≤ sK b D a → h (x + 8) a = if sK b D a < 20 then b (sP b D a) else sK b D a - 20) := r.2.2.2.2.1 a ha.1 (by omega)
theorem RdX.upN (r : RdX L h x b D N) : upN b D N := fun i z0 z1 => (r.2.2.2.2.2.2.1 i z0 z1).1
theorem RdX.pl (r : RdX L h x b D N) (ha : 0 ≤ a ∧ a ≤ N) : 0 ≤ sP b D a ∧ sP b D a ≤ 2000 := by
  have h1 := sP_N r.2.2.1 r.upN a.toNat (by omega)
  rw [show ((a.toNat : Nat) : Int) = a by omega] at h1
  have := r.2.2.1
  omega
theorem RdX.nx (r : RdX L h x b D N) (ha : inN N a) (h1 : sK b D a ≠ 0) (h2 : sK b D a ≠ 3) (h4 : a < 400) : inN N (a + 1) := by
  have := r.2.2.2.2.2.2.2
  refine ⟨⟨by have := ha.1; omega, ?_⟩, by omega⟩
  rcases Int.lt_or_le a N with q | q
  · omega
  · have e : a = N := by have := ha.1; omega
    rw [e] at h1 h2
    omega
theorem srt_rg (k : Int) : 0 ≤ srt k ∧ srt k ≤ 5 := by unfold srt; (repeat' split) <;> omega
theorem kdS_inj {u v : Int} (h : kdS u = kdS v) (h4 : kdS u ≠ 3) : u = v := by
  unfold kdS at h h4
  (repeat' split at h) <;> first | omega | (exfalso; (repeat' split at h4) <;> omega)
/-- a sign's kind is its byte's -/
theorem sK_sg {i : Int} (h1 : 4 ≤ sK b D i) (h2 : sK b D i < 20) : sK b D i = kdS (b (sP b D i)) := by
  have hk := kwOf_rg (tkI b D (sP b D i))
  unfold sK at h1 h2 ⊢
  show tkK b D (sP b D i) = _
  have e1 : 4 ≤ tkK b D (sP b D i) := h1
  have e2 : tkK b D (sP b D i) < 20 := h2
  unfold tkK at e1 e2 ⊢
  by_cases q1 : D ≤ sP b D i
  · rw [if_pos q1] at e1
    omega
  · rw [if_neg q1] at e1 e2 ⊢
    by_cases q2 : isL (b (sP b D i)) = true
    · rw [if_pos q2] at e1 e2
      exfalso
      generalize ev : (if 8 < tkL b D (sP b D i) then (3 : Int) else if 0 ≤ kwOf (tkI b D (sP b D i)) then 20 + kwOf (tkI b D (sP b D i)) else 1) = v at e1 e2
      (repeat' split at ev) <;> omega
    · rw [if_neg q2] at e1 e2 ⊢
      by_cases q3 : isG (b (sP b D i)) = true
      · rw [if_pos q3] at e1
        exfalso
        split at e1 <;> omega
      · rw [if_neg q3]
theorem C_X1_of {n p : Int} (hk : kd L (x + 1) = 1) (hn : rg32 n) (hp : rg32 p) (k : Q (.inl [aR (x + 1)]) L (fltH h x n p)) : am_C G mX1_of (d + 1) [aR (x + 1), aI n, aI p] L h Q := by
  refine x_start okX1_of rfl rfl rfl rfl ?_
  refine x_aload_0 dX1_of_0 ?_
  refine x_iload_1 dX1_of_1 ?_
  refine x_putI_ dX1_of_2 fl212_1 (by assumption) (by exact hn) ?_
  refine x_aload_0 dX1_of_5 ?_
  refine x_iload_2 dX1_of_6 ?_
  refine x_putI_ dX1_of_7 fl214_1 (by assumption) (by exact hp) ?_
  refine x_aload_0 dX1_of_10 ?_
  refine x_aret dX1_of_11 rfl ?_
  exact k
theorem C_X3_wrongAt {n : Int} (hR : RdX L h x b D N) (ha : 0 ≤ a ∧ a ≤ N) (hn : 0 ≤ n ∧ n ≤ 6) (k : Q (.inl [aR (x + 1)]) L (fltH h x n (sP b D a))) : am_C G mX3_wrongAt (d + 2) [aR (x + 9), aI n, aI a] L h Q := by
  have hK := hR.mk
  have hND : N ≤ 2000 := by have := hR.2.2.2.2.2.1; have := hR.2.2.1; omega
  have h6 := (hR.tk ha).2.1
  have hpl := hR.pl ha
  refine x_start okX3_wrongAt rfl rfl rfl rfl ?_
  refine x_aload_0 dX3_wrongAt_0 ?_
  refine x_getR dX3_wrongAt_1 fl297_3 rfl (by first | (exact MkL.k_parser (by assumption)) | (assumption)) (by first | (exact MkL.v_pfault (by assumption)) | (assumption)) ?_
  refine x_iload_1 dX3_wrongAt_4 ?_
  refine x_aload_0 dX3_wrongAt_5 ?_
  refine x_getR dX3_wrongAt_6 fl296_3 rfl (by first | (exact MkL.k_parser (by assumption)) | (assumption)) (by first | (exact MkL.v_t (by assumption)) | (assumption)) ?_
  refine x_getR dX3_wrongAt_9 fl267_2 rfl (by first | (exact MkL.k_tokens (by assumption)) | (assumption)) (by first | (exact MkL.v_from (by assumption)) | (assumption)) ?_
  refine x_iload_2 dX3_wrongAt_12 ?_
  refine x_sald_ dX3_wrongAt_13 (by first | (exact MkL.k_from (by assumption)) | (assumption)) (by first | (exact MkL.x_from (by assumption) (by omega) (by omega)) | (omega)) (fun r13 => ?_)
  rw [h6] at r13 ⊢
  refine x_callV2 dX3_wrongAt_14 rfl okX1_of q756 q757 q758 (by exact hK.k_fault) am_k1 rfl (C_X1_of hK.k_fault ⟨by omega, by omega⟩ ⟨by omega, by omega⟩ (x_k1 ?_))
  refine x_aret dX3_wrongAt_17 rfl ?_
  exact k
theorem C_X3_wrong {n : Int} (hR : RdX L h x b D N) (hat : h (x + 9) 3 = a) (ha : 0 ≤ a ∧ a ≤ N) (hn : 0 ≤ n ∧ n ≤ 6) (k : Q (.inl [aR (x + 1)]) L (fltH h x n (sP b D a))) : am_C G mX3_wrong (d + 3) [aR (x + 9), aI n] L h Q := by
  have hK := hR.mk
  refine x_start okX3_wrong rfl rfl rfl rfl ?_
  refine x_aload_0 dX3_wrong_0 ?_
  refine x_iload_1 dX3_wrong_1 ?_
  refine x_aload_0 dX3_wrong_2 ?_
  refine x_getI_ dX3_wrong_3 fl299_3 (by first | (exact MkL.k_parser (by assumption)) | (assumption)) (fun r3 => ?_)
  rw [hat] at r3 ⊢
  refine x_callV2 dX3_wrong_6 rfl okX3_wrongAt q752 q754 qs11 (by first | assumption | (exact MkL.k_parser (by assumption))) am_k3 rfl (C_X3_wrongAt hR ha hn (x_k1 ?_))
  refine x_aret dX3_wrong_9 rfl ?_
  exact k
theorem C_X3_pass (hR : RdX L h x b D N) (hat : h (x + 9) 3 = a) (ha : inN N a) (k1 : a < 400 → Q (.inl []) L (am_st h (x + 9) 3 (a + 1))) (k2 : 400 ≤ a → Q (.inr (x + 1)) L (fltH h x 2 (sP b D a))) : am_C G mX3_pass (d + 4) [aR (x + 9)] L h Q := by
  have hK := hR.mk
  have ha0 := ha.1
  refine x_start okX3_pass rfl rfl rfl rfl ?_
  refine x_aload_0 dX3_pass_0 ?_
  refine x_getI_ dX3_pass_1 fl299_3 (by first | (exact MkL.k_parser (by assumption)) | (assumption)) (fun r1 => ?_)
  rw [hat] at r1 ⊢
  refine x_sipush dX3_pass_4 rfl ?_
  refine x_icmp_lt (tgt := 16) dX3_pass_7 rfl (by omega) (by omega) (fun c7 => ?_) (fun c7 => ?_)
  · refine x_aload_0 dX3_pass_16 ?_
    refine x_dup dX3_pass_17 rfl ?_
    refine x_getI_ dX3_pass_18 fl299_3 (by first | (exact MkL.k_parser (by assumption)) | (assumption)) (fun r18 => ?_)
    rw [hat] at r18 ⊢
    refine x_iconst dX3_pass_21 ?_
    refine x_iadd dX3_pass_22 ?_
    refine x_putI_ dX3_pass_23 fl299_3 (by first | (exact MkL.k_parser (by assumption)) | (assumption)) (by omega) ?_
    refine x_ret dX3_pass_26 rfl ?_
    exact k1 (by omega)
  · refine x_aload_0 dX3_pass_10 ?_
    refine x_iconst dX3_pass_11 ?_
    refine x_callV1 dX3_pass_12 rfl okX3_wrong q748 q750 qs10 (by first | assumption | (exact MkL.k_parser (by assumption))) am_k3 rfl (C_X3_wrong hR hat ha.1 (by decide) (x_k1 ?_))
    refine x_athrow dX3_pass_15 rfl (by exact hK.k_fault) ?_
    exact k2 (by omega)
theorem C_X3_sort (hR : RdX L h x b D N) (hat : h (x + 9) 3 = a) (ha : inN N a) (k1 : sK b D a ≠ 3 → Q (.inl [aI (srt (sK b D a))]) L h) (k2 : sK b D a = 3 → Q (.inr (x + 1)) L (fltH h x 1 (sP b D a))) : am_C G mX3_sort (d + 4) [aR (x + 9)] L h Q := by
  have hK := hR.mk
  have ha0 := ha.1
  have h5 := (hR.tk ha.1).1
  have hs := srt_rg (sK b D a)
  have hs3 : srt (sK b D a) = 5 ↔ sK b D a = 3 := by unfold srt; (repeat' split) <;> omega
  have hND : N ≤ 2000 := by have := hR.2.2.2.2.2.1; have := hR.2.2.1; omega
  refine x_start okX3_sort rfl rfl rfl rfl ?_
  refine x_aload_0 dX3_sort_0 ?_
  refine x_getR dX3_sort_1 fl296_3 rfl (by first | (exact MkL.k_parser (by assumption)) | (assumption)) (by first | (exact MkL.v_t (by assumption)) | (assumption)) ?_
  refine x_getR dX3_sort_4 fl265_2 rfl (by first | (exact MkL.k_tokens (by assumption)) | (assumption)) (by first | (exact MkL.v_sort (by assumption)) | (assumption)) ?_
  refine x_aload_0 dX3_sort_7 ?_
  refine x_getI_ dX3_sort_8 fl299_3 (by first | (exact MkL.k_parser (by assumption)) | (assumption)) (fun r8 => ?_)
  rw [hat] at r8 ⊢
  refine x_bald_ dX3_sort_11 (by first | (exact MkL.k_sort (by assumption)) | (assumption)) (by first | (exact MkL.x_sort (by assumption) (by omega) (by omega)) | (omega)) (fun r11 => ?_)
  rw [h5] at r11 ⊢
  refine x_iconst dX3_sort_12 ?_
  refine x_icmp_ne (tgt := 22) dX3_sort_13 rfl (by omega) (by omega) (fun c13 => ?_) (fun c13 => ?_)
  · refine x_aload_0 dX3_sort_22 ?_
    refine x_getR dX3_sort_23 fl296_3 rfl (by first | (exact MkL.k_parser (by assumption)) | (assumption)) (by first | (exact MkL.v_t (by assumption)) | (assumption)) ?_
    refine x_getR dX3_sort_26 fl265_2 rfl (by first | (exact MkL.k_tokens (by assumption)) | (assumption)) (by first | (exact MkL.v_sort (by assumption)) | (assumption)) ?_
    refine x_aload_0 dX3_sort_29 ?_
    refine x_getI_ dX3_sort_30 fl299_3 (by first | (exact MkL.k_parser (by assumption)) | (assumption)) (fun r30 => ?_)
    rw [hat] at r30 ⊢
    refine x_bald_ dX3_sort_33 (by first | (exact MkL.k_sort (by assumption)) | (assumption)) (by first | (exact MkL.x_sort (by assumption) (by omega) (by omega)) | (omega)) (fun r33 => ?_)
    rw [h5] at r33 ⊢
    refine x_iret dX3_sort_34 rfl ?_
    exact k1 (by omega)
  · refine x_aload_0 dX3_sort_16 ?_
    refine x_iconst dX3_sort_17 ?_
    refine x_callV1 dX3_sort_18 rfl okX3_wrong q748 q750 qs10 (by first | assumption | (exact MkL.k_parser (by assumption))) am_k3 rfl (C_X3_wrong hR hat ha.1 (by decide) (x_k1 ?_))
    refine x_athrow dX3_sort_21 rfl (by exact hK.k_fault) ?_
    exact k2 (by omega)
theorem C_X3_isSign {s : Int} (hR : RdX L h x b D N) (hat : h (x + 9) 3 = a) (ha : inN N a) (hs : 4 ≤ kdS s) (hs2 : 0 ≤ s ∧ s ≤ 127) (k : Q (.inl [aI (if sK b D a = kdS s then 1 else 0)]) L h) : am_C G mX3_isSign (d + 1) [aR (x + 9), aI s] L h Q := by
  have hK := hR.mk
  have ha0 := ha.1
  obtain ⟨h5, -, -, h8⟩ := hR.tk ha.1
  have hsr := srt_rg (sK b D a)
  have hrg : 0 ≤ sK b D a ∧ sK b D a ≤ 36 := tkK_rg b D _
  have hs3 : srt (sK b D a) = 2 ↔ 4 ≤ sK b D a ∧ sK b D a < 20 := by unfold srt; (repeat' split) <;> omega
  have hND : N ≤ 2000 := by have := hR.2.2.2.2.2.1; have := hR.2.2.1; omega
  have hkd := kdS_rg s
  refine x_start okX3_isSign rfl rfl rfl rfl ?_
  by_cases q : 4 ≤ sK b D a ∧ sK b D a < 20
  · have h8' := h8 q.1
    rw [if_pos q.2] at h8'
    have e1 := sK_sg q.1 q.2
    refine x_aload_0 dX3_isSign_0 ?_
    refine x_getR dX3_isSign_1 fl296_3 rfl (by first | (exact MkL.k_parser (by assumption)) | (assumption)) (by first | (exact MkL.v_t (by assumption)) | (assumption)) ?_
    refine x_getR dX3_isSign_4 fl265_2 rfl (by first | (exact MkL.k_tokens (by assumption)) | (assumption)) (by first | (exact MkL.v_sort (by assumption)) | (assumption)) ?_
    refine x_aload_0 dX3_isSign_7 ?_
    refine x_getI_ dX3_isSign_8 fl299_3 (by first | (exact MkL.k_parser (by assumption)) | (assumption)) (fun r8 => ?_)
    rw [hat] at r8 ⊢
    refine x_bald_ dX3_isSign_11 (by first | (exact MkL.k_sort (by assumption)) | (assumption)) (by first | (exact MkL.x_sort (by assumption) (by omega) (by omega)) | (omega)) (fun r11 => ?_)
    rw [h5] at r11 ⊢
    refine x_iconst dX3_isSign_12 ?_
    refine x_icmp_ne (tgt := 36) dX3_isSign_13 rfl (by omega) (by omega) (fun c13 => ?_) (fun c13 => ?_)
    · refine x_iconst dX3_isSign_36 ?_
      refine x_zret dX3_isSign_37 rfl (by omega) ?_
      refine x_q1 ?_ k
      first
        | (exfalso; omega)
        | (rw [if_pos]; rw [e1, c29])
        | (rw [if_neg]; intro z; rw [e1] at z; exact c29 (kdS_inj z (by omega)))
    · refine x_aload_0 dX3_isSign_16 ?_
      refine x_getR dX3_isSign_17 fl296_3 rfl (by first | (exact MkL.k_parser (by assumption)) | (assumption)) (by first | (exact MkL.v_t (by assumption)) | (assumption)) ?_
      refine x_getR dX3_isSign_20 fl270_2 rfl (by first | (exact MkL.k_tokens (by assumption)) | (assumption)) (by first | (exact MkL.v_what (by assumption)) | (assumption)) ?_
      refine x_aload_0 dX3_isSign_23 ?_
      refine x_getI_ dX3_isSign_24 fl299_3 (by first | (exact MkL.k_parser (by assumption)) | (assumption)) (fun r24 => ?_)
      rw [hat] at r24 ⊢
      refine x_sald_ dX3_isSign_27 (by first | (exact MkL.k_what (by assumption)) | (assumption)) (by first | (exact MkL.x_what (by assumption) (by omega) (by omega)) | (omega)) (fun r27 => ?_)
      rw [h8'] at r27 ⊢
      refine x_iload_1 dX3_isSign_28 ?_
      refine x_icmp_ne (tgt := 36) dX3_isSign_29 rfl (by omega) (by omega) (fun c29 => ?_) (fun c29 => ?_)
      · refine x_iconst dX3_isSign_36 ?_
        refine x_zret dX3_isSign_37 rfl (by omega) ?_
        refine x_q1 ?_ k
        first
          | (exfalso; omega)
          | (rw [if_pos]; rw [e1, c29])
          | (rw [if_neg]; intro z; rw [e1] at z; exact c29 (kdS_inj z (by omega)))
      · refine x_iconst dX3_isSign_32 ?_
        refine x_goto (tgt := 37) dX3_isSign_33 rfl ?_
        refine x_zret dX3_isSign_37 rfl (by omega) ?_
        refine x_q1 ?_ k
        first
          | (exfalso; omega)
          | (rw [if_pos]; rw [e1, c29])
          | (rw [if_neg]; intro z; rw [e1] at z; exact c29 (kdS_inj z (by omega)))
  · skip
    refine x_aload_0 dX3_isSign_0 ?_
    refine x_getR dX3_isSign_1 fl296_3 rfl (by first | (exact MkL.k_parser (by assumption)) | (assumption)) (by first | (exact MkL.v_t (by assumption)) | (assumption)) ?_
    refine x_getR dX3_isSign_4 fl265_2 rfl (by first | (exact MkL.k_tokens (by assumption)) | (assumption)) (by first | (exact MkL.v_sort (by assumption)) | (assumption)) ?_
    refine x_aload_0 dX3_isSign_7 ?_
    refine x_getI_ dX3_isSign_8 fl299_3 (by first | (exact MkL.k_parser (by assumption)) | (assumption)) (fun r8 => ?_)
    rw [hat] at r8 ⊢
    refine x_bald_ dX3_isSign_11 (by first | (exact MkL.k_sort (by assumption)) | (assumption)) (by first | (exact MkL.x_sort (by assumption) (by omega) (by omega)) | (omega)) (fun r11 => ?_)
    rw [h5] at r11 ⊢
    refine x_iconst dX3_isSign_12 ?_
    refine x_icmp_ne (tgt := 36) dX3_isSign_13 rfl (by omega) (by omega) (fun c13 => ?_) (fun c13 => ?_)
    · refine x_iconst dX3_isSign_36 ?_
      refine x_zret dX3_isSign_37 rfl (by omega) ?_
      refine x_q1 ?_ k
      rw [if_neg (by omega)]
    · exfalso; omega
theorem C_X3_isWord {w : Int} (hR : RdX L h x b D N) (hat : h (x + 9) 3 = a) (ha : inN N a) (hw : 0 ≤ w ∧ w ≤ 16) (k : Q (.inl [aI (if sK b D a = 20 + w then 1 else 0)]) L h) : am_C G mX3_isWord (d + 1) [aR (x + 9), aI w] L h Q := by
  have hK := hR.mk
  have ha0 := ha.1
  obtain ⟨h5, -, -, h8⟩ := hR.tk ha.1
  have hsr := srt_rg (sK b D a)
  have hrg : 0 ≤ sK b D a ∧ sK b D a ≤ 36 := tkK_rg b D _
  have hs3 : srt (sK b D a) = 3 ↔ 20 ≤ sK b D a := by unfold srt; (repeat' split) <;> omega
  have hND : N ≤ 2000 := by have := hR.2.2.2.2.2.1; have := hR.2.2.1; omega
  refine x_start okX3_isWord rfl rfl rfl rfl ?_
  by_cases q : 20 ≤ sK b D a
  · have h8' := h8 (by omega)
    rw [if_neg (by omega)] at h8'
    refine x_aload_0 dX3_isWord_0 ?_
    refine x_getR dX3_isWord_1 fl296_3 rfl (by first | (exact MkL.k_parser (by assumption)) | (assumption)) (by first | (exact MkL.v_t (by assumption)) | (assumption)) ?_
    refine x_getR dX3_isWord_4 fl265_2 rfl (by first | (exact MkL.k_tokens (by assumption)) | (assumption)) (by first | (exact MkL.v_sort (by assumption)) | (assumption)) ?_
    refine x_aload_0 dX3_isWord_7 ?_
    refine x_getI_ dX3_isWord_8 fl299_3 (by first | (exact MkL.k_parser (by assumption)) | (assumption)) (fun r8 => ?_)
    rw [hat] at r8 ⊢
    refine x_bald_ dX3_isWord_11 (by first | (exact MkL.k_sort (by assumption)) | (assumption)) (by first | (exact MkL.x_sort (by assumption) (by omega) (by omega)) | (omega)) (fun r11 => ?_)
    rw [h5] at r11 ⊢
    refine x_iconst dX3_isWord_12 ?_
    refine x_icmp_ne (tgt := 36) dX3_isWord_13 rfl (by omega) (by omega) (fun c13 => ?_) (fun c13 => ?_)
    · refine x_iconst dX3_isWord_36 ?_
      refine x_zret dX3_isWord_37 rfl (by omega) ?_
      refine x_q1 ?_ k
      split <;> omega
    · refine x_aload_0 dX3_isWord_16 ?_
      refine x_getR dX3_isWord_17 fl296_3 rfl (by first | (exact MkL.k_parser (by assumption)) | (assumption)) (by first | (exact MkL.v_t (by assumption)) | (assumption)) ?_
      refine x_getR dX3_isWord_20 fl270_2 rfl (by first | (exact MkL.k_tokens (by assumption)) | (assumption)) (by first | (exact MkL.v_what (by assumption)) | (assumption)) ?_
      refine x_aload_0 dX3_isWord_23 ?_
      refine x_getI_ dX3_isWord_24 fl299_3 (by first | (exact MkL.k_parser (by assumption)) | (assumption)) (fun r24 => ?_)
      rw [hat] at r24 ⊢
      refine x_sald_ dX3_isWord_27 (by first | (exact MkL.k_what (by assumption)) | (assumption)) (by first | (exact MkL.x_what (by assumption) (by omega) (by omega)) | (omega)) (fun r27 => ?_)
      rw [h8'] at r27 ⊢
      refine x_iload_1 dX3_isWord_28 ?_
      refine x_icmp_ne (tgt := 36) dX3_isWord_29 rfl (by omega) (by omega) (fun c29 => ?_) (fun c29 => ?_)
      · refine x_iconst dX3_isWord_36 ?_
        refine x_zret dX3_isWord_37 rfl (by omega) ?_
        refine x_q1 ?_ k
        split <;> omega
      · refine x_iconst dX3_isWord_32 ?_
        refine x_goto (tgt := 37) dX3_isWord_33 rfl ?_
        refine x_zret dX3_isWord_37 rfl (by omega) ?_
        refine x_q1 ?_ k
        split <;> omega
  · skip
    refine x_aload_0 dX3_isWord_0 ?_
    refine x_getR dX3_isWord_1 fl296_3 rfl (by first | (exact MkL.k_parser (by assumption)) | (assumption)) (by first | (exact MkL.v_t (by assumption)) | (assumption)) ?_
    refine x_getR dX3_isWord_4 fl265_2 rfl (by first | (exact MkL.k_tokens (by assumption)) | (assumption)) (by first | (exact MkL.v_sort (by assumption)) | (assumption)) ?_
    refine x_aload_0 dX3_isWord_7 ?_
    refine x_getI_ dX3_isWord_8 fl299_3 (by first | (exact MkL.k_parser (by assumption)) | (assumption)) (fun r8 => ?_)
    rw [hat] at r8 ⊢
    refine x_bald_ dX3_isWord_11 (by first | (exact MkL.k_sort (by assumption)) | (assumption)) (by first | (exact MkL.x_sort (by assumption) (by omega) (by omega)) | (omega)) (fun r11 => ?_)
    rw [h5] at r11 ⊢
    refine x_iconst dX3_isWord_12 ?_
    refine x_icmp_ne (tgt := 36) dX3_isWord_13 rfl (by omega) (by omega) (fun c13 => ?_) (fun c13 => ?_)
    · refine x_iconst dX3_isWord_36 ?_
      refine x_zret dX3_isWord_37 rfl (by omega) ?_
      refine x_q1 ?_ k
      rw [if_neg (by omega)]
    · exfalso; omega
theorem C_X3_sign {s : Int} (hR : RdX L h x b D N) (hat : h (x + 9) 3 = a) (ha : inN N a) (hs : 4 ≤ kdS s) (hs2 : 0 ≤ s ∧ s ≤ 127) (k1 : sK b D a = kdS s → a < 400 → Q (.inl []) L (am_st h (x + 9) 3 (a + 1))) (k2 : sK b D a ≠ kdS s → Q (.inr (x + 1)) L (fltH h x 1 (sP b D a))) (k3 : sK b D a = kdS s → 400 ≤ a → Q (.inr (x + 1)) L (fltH h x 2 (sP b D a))) : am_C G mX3_sign (d + 5) [aR (x + 9), aI s] L h Q := by
  have hK := hR.mk
  refine x_start okX3_sign rfl rfl rfl rfl ?_
  by_cases q : sK b D a = kdS s
  · skip
    refine x_aload_0 dX3_sign_0 ?_
    refine x_iload_1 dX3_sign_1 ?_
    refine x_callV1 dX3_sign_2 rfl okX3_isSign q1112 q1114 qs25 (by first | assumption | (exact MkL.k_parser (by assumption))) am_k3 rfl (C_X3_isSign hR hat ha hs hs2 (x_k1 ?_))
    rw [if_pos q]
    refine x_if_ne (tgt := 14) dX3_sign_5 rfl (by omega) (fun c5 => ?_) (fun c5 => ?_)
    · refine x_aload_0 dX3_sign_14 ?_
      refine x_callV0 dX3_sign_15 rfl okX3_pass q764 q766 qs13 (by first | assumption | (exact MkL.k_parser (by assumption))) am_k3 rfl (C_X3_pass hR hat ha (fun z => (x_k0 ?_)) (fun z => x_kx ⟨hK.k_fault, k3 q z⟩))
      refine x_ret dX3_sign_18 rfl ?_
      exact k1 q z
    · exact absurd c5 (by decide)
  · skip
    refine x_aload_0 dX3_sign_0 ?_
    refine x_iload_1 dX3_sign_1 ?_
    refine x_callV1 dX3_sign_2 rfl okX3_isSign q1112 q1114 qs25 (by first | assumption | (exact MkL.k_parser (by assumption))) am_k3 rfl (C_X3_isSign hR hat ha hs hs2 (x_k1 ?_))
    rw [if_neg q]
    refine x_if_ne (tgt := 14) dX3_sign_5 rfl (by omega) (fun c5 => ?_) (fun c5 => ?_)
    · exact absurd rfl c5
    · refine x_aload_0 dX3_sign_8 ?_
      refine x_iconst dX3_sign_9 ?_
      refine x_callV1 dX3_sign_10 rfl okX3_wrong q748 q750 qs10 (by first | assumption | (exact MkL.k_parser (by assumption))) am_k3 rfl (C_X3_wrong hR hat ha.1 (by decide) (x_k1 ?_))
      refine x_athrow dX3_sign_13 rfl (by exact hK.k_fault) ?_
      exact k2 q
theorem C_X3_word {w : Int} (hR : RdX L h x b D N) (hat : h (x + 9) 3 = a) (ha : inN N a) (hw : 0 ≤ w ∧ w ≤ 16) (k1 : sK b D a = 20 + w → a < 400 → Q (.inl []) L (am_st h (x + 9) 3 (a + 1))) (k2 : sK b D a ≠ 20 + w → Q (.inr (x + 1)) L (fltH h x 1 (sP b D a))) (k3 : sK b D a = 20 + w → 400 ≤ a → Q (.inr (x + 1)) L (fltH h x 2 (sP b D a))) : am_C G mX3_word (d + 5) [aR (x + 9), aI w] L h Q := by
  have hK := hR.mk
  refine x_start okX3_word rfl rfl rfl rfl ?_
  by_cases q : sK b D a = 20 + w
  · skip
    refine x_aload_0 dX3_word_0 ?_
    refine x_iload_1 dX3_word_1 ?_
    refine x_callV1 dX3_word_2 rfl okX3_isWord q1116 q1118 qs26 (by first | assumption | (exact MkL.k_parser (by assumption))) am_k3 rfl (C_X3_isWord hR hat ha hw (x_k1 ?_))
    rw [if_pos q]
    refine x_if_ne (tgt := 14) dX3_word_5 rfl (by omega) (fun c5 => ?_) (fun c5 => ?_)
    · refine x_aload_0 dX3_word_14 ?_
      refine x_callV0 dX3_word_15 rfl okX3_pass q764 q766 qs13 (by first | assumption | (exact MkL.k_parser (by assumption))) am_k3 rfl (C_X3_pass hR hat ha (fun z => (x_k0 ?_)) (fun z => x_kx ⟨hK.k_fault, k3 q z⟩))
      refine x_ret dX3_word_18 rfl ?_
      exact k1 q z
    · exact absurd c5 (by decide)
  · skip
    refine x_aload_0 dX3_word_0 ?_
    refine x_iload_1 dX3_word_1 ?_
    refine x_callV1 dX3_word_2 rfl okX3_isWord q1116 q1118 qs26 (by first | assumption | (exact MkL.k_parser (by assumption))) am_k3 rfl (C_X3_isWord hR hat ha hw (x_k1 ?_))
    rw [if_neg q]
    refine x_if_ne (tgt := 14) dX3_word_5 rfl (by omega) (fun c5 => ?_) (fun c5 => ?_)
    · exact absurd rfl c5
    · refine x_aload_0 dX3_word_8 ?_
      refine x_iconst dX3_word_9 ?_
      refine x_callV1 dX3_word_10 rfl okX3_wrong q748 q750 qs10 (by first | assumption | (exact MkL.k_parser (by assumption))) am_k3 rfl (C_X3_wrong hR hat ha.1 (by decide) (x_k1 ?_))
      refine x_athrow dX3_word_13 rfl (by exact hK.k_fault) ?_
      exact k2 q
/-- a token of the kind s (0 a name, 1 an int): where it stands -/
theorem C_X3_take {s kk : Int} (hR : RdX L h x b D N) (hat : h (x + 9) 3 = a) (ha : inN N a) (hs : (s = 0 ∧ kk = 1) ∨ (s = 1 ∧ kk = 2)) (k1 : sK b D a = kk → a < 400 → Q (.inl [aI a]) L (am_st h (x + 9) 3 (a + 1))) (k2 : sK b D a ≠ kk → Q (.inr (x + 1)) L (fltH h x 1 (sP b D a))) (k3 : sK b D a = kk → 400 ≤ a → Q (.inr (x + 1)) L (fltH h x 2 (sP b D a))) : am_C G mX3_take (d + 5) [aR (x + 9), aI s] L h Q := by
  have hK := hR.mk
  have ha0 := ha.1
  have hsr := srt_rg (sK b D a)
  have hrg : 0 ≤ sK b D a ∧ sK b D a ≤ 36 := tkK_rg b D _
  have hs3 : srt (sK b D a) = s ↔ sK b D a = kk := by unfold srt; (repeat' split) <;> omega
  refine x_start okX3_take rfl rfl rfl rfl ?_
  refine x_aload_0 dX3_take_0 ?_
  refine x_callV0 dX3_take_1 rfl okX3_sort q744 q746 qs9 (by first | assumption | (exact MkL.k_parser (by assumption))) am_k3 rfl (C_X3_sort hR hat ha (fun q3 => (x_k1 ?_)) (fun z => x_kx ⟨hK.k_fault, k2 (by omega)⟩))
  refine x_iload_1 dX3_take_4 ?_
  refine x_icmp_eq (tgt := 14) dX3_take_5 rfl (by omega) (by omega) (fun c5 => ?_) (fun c5 => ?_)
  · refine x_aload_0 dX3_take_14 ?_
    refine x_callV0 dX3_take_15 rfl okX3_pass q764 q766 qs13 (by first | assumption | (exact MkL.k_parser (by assumption))) am_k3 rfl (C_X3_pass hR hat ha (fun z => (x_k0 ?_)) (fun z => x_kx ⟨hK.k_fault, k3 (by omega) z⟩))
    refine x_aload_0 dX3_take_18 ?_
    refine x_getI_ dX3_take_19 fl299_3 (by first | (exact MkL.k_parser (by assumption)) | (assumption)) (fun r19 => ?_)
    simp (disch := omega) only [am_st_s] at r19 ⊢
    refine x_iconst dX3_take_22 ?_
    refine x_isub dX3_take_23 ?_
    refine x_iret dX3_take_24 rfl ?_
    rw [show a + 1 - 1 = a by omega]
    exact k1 (by omega) (by omega)
  · refine x_aload_0 dX3_take_8 ?_
    refine x_iconst dX3_take_9 ?_
    refine x_callV1 dX3_take_10 rfl okX3_wrong q748 q750 qs10 (by first | assumption | (exact MkL.k_parser (by assumption))) am_k3 rfl (C_X3_wrong hR hat ha.1 (by decide) (x_k1 ?_))
    refine x_athrow dX3_take_13 rfl (by exact hK.k_fault) ?_
    exact k2 (by omega)
end XPAR
