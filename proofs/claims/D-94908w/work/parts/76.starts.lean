/-! OPERATIONS: starts -/
set_option maxRecDepth 100000
section STARTP
variable {T : Txt} {S : Row} {b q : Int} {g : Sg}
/-- what is left of a row behind n digits; the digits -/
def rsN (m row : Int) : Nat → Int
  | 0 => row
  | n + 1 => rsN m row n / (m + 1)
def ltS (m row i : Int) : Int := rsN m row i.toNat % (m + 1)
theorem ltS_bd {m : Int} (hm : 0 ≤ m ∧ m ≤ 3) (row i : Int) : 0 ≤ ltS m row i ∧ ltS m row i ≤ 3 := by
  have h1 := Int.emod_nonneg (rsN m row i.toNat) (b := m + 1) (by omega)
  have h2 := Int.emod_lt_of_pos (rsN m row i.toNat) (b := m + 1) (by omega)
  unfold ltS
  omega
theorem rsN_bd {m row : Int} (hm : 0 ≤ m ∧ m ≤ 3) (hr : 0 ≤ row ∧ row ≤ 1000) : ∀ n : Nat, 0 ≤ rsN m row n ∧ rsN m row n ≤ 1000
  | 0 => hr
  | n + 1 => by
    have h0 := rsN_bd hm hr n
    have e : m = 0 ∨ m = 1 ∨ m = 2 ∨ m = 3 := by omega
    show 0 ≤ rsN m row n / (m + 1) ∧ rsN m row n / (m + 1) ≤ 1000
    rcases e with rfl | rfl | rfl | rfl <;> omega
theorem rsN_s {m row i : Int} (h : 0 ≤ i) : rsN m row (i + 1).toNat = rsN m row i.toNat / (m + 1) := by
  rw [show (i + 1).toNat = i.toNat + 1 by omega]
  rfl
/-- the row behind n minutes, men beginning later -/
noncomputable def soR (T : Txt) (lt : Int → Int) : Nat → Row
  | 0 => begR T
  | n + 1 => tickR (goL T (soR T lt n) lt (tM T).toNat)
theorem soR_M (lt : Int → Int) : ∀ n : Nat, rM (soR T lt n) = n
  | 0 => rfl
  | n + 1 => by
    show rM (goL T (soR T lt n) lt (tM T).toNat) + 1 = _
    rw [goL_M, soR_M lt n]
    omega
theorem soR_I (hT : TxtI T) (lt : Int → Int) : ∀ n : Nat, RowI T (soR T lt n) n (7 * n)
  | 0 => by
    have := RowI.beg hT
    exact this
  | n + 1 => by
    have h0 := soR_I hT lt n
    have h7 := hT.1
    have := ((h0.goLl hT lt (tM T).toNat (by omega)).mono (b' := n) (q' := 7 * n + 7) (by omega) (by omega)).tick
    exact this.mono (by omega) (by omega)
/-- what was told of pieces over pieces is so -/
def soB (g : Sg) (R : Row) : Nat → Bool
  | 0 => true
  | n + 1 => soB g R n && decide ((if 0 < ovR R (gM g n) (gO g n) then (1 : Int) else 0) = gV g n)
theorem soB_no {R : Row} {i : Nat} (h : ¬ (if 0 < ovR R (gM g i) (gO g i) then (1 : Int) else 0) = gV g i) : ∀ n : Nat, i < n → soB g R n = false
  | 0, z => absurd z (Nat.not_lt_zero _)
  | n + 1, z => by
    unfold soB
    by_cases e : i = n
    · subst e
      rw [decide_eq_false h, Bool.and_false]
    · rw [soB_no h n (by omega), Bool.false_and]
/-- how many rows -/
def stA (m : Int) : Nat → Int
  | 0 => 1
  | n + 1 => stA m n * (m + 1)
theorem stA_bd {m : Int} (hm : 0 ≤ m ∧ m ≤ 3) : ∀ n : Nat, 1 ≤ stA m n ∧ stA m n ≤ (4 ^ n : Nat)
  | 0 => ⟨Int.le_refl _, by show (1 : Int) ≤ ((4 ^ 0 : Nat) : Int); decide⟩
  | n + 1 => by
    obtain ⟨h1, h2⟩ := stA_bd hm n
    have e : m = 0 ∨ m = 1 ∨ m = 2 ∨ m = 3 := by omega
    have hp : 4 ^ (n + 1) = 4 * 4 ^ n := by rw [Nat.pow_succ]; omega
    show 1 ≤ stA m n * (m + 1) ∧ stA m n * (m + 1) ≤ _
    rw [hp]
    rcases e with rfl | rfl | rfl | rfl <;> omega
theorem stA_s {m i : Int} (h : 0 ≤ i) : stA m (i + 1).toNat = stA m i.toNat * (m + 1) := by
  rw [show (i + 1).toNat = i.toNat + 1 by omega]
  rfl
noncomputable def soI (g : Sg) (m n k row : Int) : Int := if soB g (soR (gT g) (ltS m row) n.toNat) k.toNat = true then 1 else 0
noncomputable def startsV (g : Sg) (m n k : Int) : Int := if (0 ≤ m ∧ m ≤ 3) ∧ (0 ≤ n ∧ n ≤ 40) ∧ (0 ≤ k ∧ k ≤ gK g) then (if 1000 < stA m (tM (gT g)).toNat then -2 else sumI (stA m (tM (gT g)).toNat) (soI g m n k)) else -1
theorem goL_s (lt : Int → Int) {i : Int} (h : 0 ≤ i) : goL T S lt (i + 1).toNat = if rM S < lt i then goL T S lt i.toNat else goR T (goL T S lt i.toNat) i (lt i) := by
  rw [show (i + 1).toNat = i.toNat + 1 by omega]
  show (if rM S < lt (i.toNat : Nat) then _ else goR T (goL T S lt i.toNat) (i.toNat : Nat) (lt (i.toNat : Nat))) = _
  rw [show ((i.toNat : Nat) : Int) = i by omega]
end STARTP
section STARTC
variable {G : am_G} {d : Nat} {L : am_L} {h h' : am_H} {Q : am_O → am_L → am_H → Prop} {x o s t c : Int} {T : Txt} {S : Row} {g : Sg} {b q : Int}
set_option maxHeartbeats 4000000 in
theorem C_goes3 {m off : Int} (hr : RC L h c T S) (hI : RowI T S b q) (hb : b ≤ 100000 ∧ q ≤ 100000) (hT : TxtI T) (ht : TxL L t T) (hm : 0 ≤ m ∧ m < tM T) (ho : 0 ≤ off ∧ off ≤ 3)
    (k : ∀ h', RC L h' c T (goR T S m off) → FrC h h' c → Q (.inl []) L h') : am_C G mX5_goes (d + 424) [aR c, aR t, aI m, aI off] L h Q := by
  have hm7 : m < 7 := by have := hT.1; omega
  have hn := (hI.1 m hm.1 hm7).1
  have bl := lng_bd hT m
  have hmi := hI.2.2.2.2.2.2.1
  have hd := doesR_bd (S := S) hT hm off
  have kcl := hr.1
  have hxy : rg32 (rX S m) ∧ rg32 (rY S m) := by
    have := (hI.2.1 m hm.1 hm.2).1
    unfold inT at this
    have := hT.2.1
    have := hT.2.2.1
    exact ⟨⟨by omega, by omega⟩, ⟨by omega, by omega⟩⟩
  refine x_start okX5_goes rfl rfl rfl rfl ?_
  refine x_aload_0 dX5_goes_0 ?_
  refine x_aload_1 dX5_goes_1 ?_
  refine x_iload_2 dX5_goes_2 ?_
  refine x_iload_3 dX5_goes_3 ?_
  refine x_callV3 dX5_goes_4 rfl okX5_does q1296 q1214 q1215 (by first | assumption | (exact ClL.k0 (by assumption))) am_k5 rfl (C_X5_does hr hT ht hm ⟨by omega, by omega⟩ ⟨by omega, by omega⟩ (by omega) ⟨by omega, by omega⟩ hxy (fun h1 hf => (x_k1 ?_)))
  refine x_istore4 dX5_goes_7 rfl ?_
  have hr1 : RC L h1 c T S := hr.fr (fun a z0 z1 => hf a (by omega) (by omega))
  have hf1 : FrC h h1 c := fun a z => hf a (by omega) (by omega)
  refine x_iload4 dX5_goes_9 ?_
  refine x_iconst dX5_goes_11 ?_
  refine x_icmp_ne (tgt := 25) dX5_goes_12 rfl (by omega) (by omega) (fun c12 => ?_) (fun c12 => ?_)
  · refine x_iload4 dX5_goes_25 ?_
    refine x_if_le (tgt := 40) dX5_goes_27 rfl (by omega) (fun c27 => ?_) (fun c27 => ?_)
    · have eg : goR T S m off = S := by unfold goR; rw [if_neg c12, if_neg (by omega)]
      refine x_ret dX5_goes_40 rfl ?_
      exact k h1 (by rw [eg]; exact hr1) hf1
    · refine x_aload_0 dX5_goes_30 ?_
      refine x_aload_1 dX5_goes_31 ?_
      refine x_iload_2 dX5_goes_32 ?_
      refine x_iload4 dX5_goes_33 ?_
      refine x_callV3 dX5_goes_35 rfl okX5_steps q1298 q1243 q1244 (by first | assumption | (exact ClL.k0 (by assumption))) am_k5 rfl (C_X5_steps hr1 hI hb hT ht hm ⟨by omega, by omega⟩ (fun hcan h2 hr2 hf2 => (x_k1 ?_)) (fun hcan => (x_k1 ?_)))
      · have eg : goR T S m off = stepR S m (doesR T S m off) := by unfold goR; rw [if_neg c12, if_pos (show 0 < doesR T S m off by omega), if_pos hcan]
        refine x_istore5 dX5_goes_38 rfl ?_
        refine x_ret dX5_goes_40 rfl ?_
        exact k h2 (by rw [eg]; exact hr2) (hf1.tr hf2)
      · have eg : goR T S m off = S := by unfold goR; rw [if_neg c12, if_pos (show 0 < doesR T S m off by omega), if_neg hcan]
        refine x_istore5 dX5_goes_38 rfl ?_
        refine x_ret dX5_goes_40 rfl ?_
        exact k h1 (by rw [eg]; exact hr1) hf1
  · refine x_aload_0 dX5_goes_15 ?_
    refine x_iload_2 dX5_goes_16 ?_
    refine x_callV1 dX5_goes_17 rfl okX5_winds q1297 q1268 q1269 (by first | assumption | (exact ClL.k0 (by assumption))) am_k5 rfl (C_X5_winds hr1 hI hT hm (fun hcan h2 hr2 hf2 => (x_k1 ?_)) (fun hcan => (x_k1 ?_)))
    · have eg : goR T S m off = windR S m := by unfold goR; rw [if_pos c12, if_pos hcan]
      refine x_istore5 dX5_goes_20 rfl ?_
      refine x_goto (tgt := 40) dX5_goes_22 rfl ?_
      refine x_ret dX5_goes_40 rfl ?_
      exact k h2 (by rw [eg]; exact hr2) (hf1.tr hf2)
    · have eg : goR T S m off = S := by unfold goR; rw [if_pos c12, if_neg hcan]
      refine x_istore5 dX5_goes_20 rfl ?_
      refine x_goto (tgt := 40) dX5_goes_22 rfl ?_
      refine x_ret dX5_goes_40 rfl ?_
      exact k h1 (by rw [eg]; exact hr1) hf1
theorem RC.tick (r : RC L h c T S) : RC L (am_st h c 8 (rM S + 1)) c T (tickR S) := by
  obtain ⟨r1, r2, r3, r4, r5, r6, r7⟩ := r
  refine ⟨r1, fun m z0 z1 => ?_, fun m z0 z1 => ?_, fun m k z0 z1 z2 z3 => ?_, ?_, am_st_s, ?_⟩
  · rw [am_st_o (by omega)]
    exact r2 m z0 z1
  · rw [am_st_o (by omega), am_st_o (by omega), am_st_o (by omega)]
    exact r3 m z0 z1
  · rw [am_st_o (by omega), am_st_o (by omega), am_st_o (by omega)]
    exact r4 m k z0 z1 z2 z3
  · rw [am_st_i (by omega)]
    exact r5
  · rw [am_st_i (by omega)]
    exact r7
set_option maxHeartbeats 8000000 in
theorem C_X0_isSo {n k : Int} {lt : Int → Int} (hC : CoI L h x t g) (hI : SgI g b q) (hn : 0 ≤ n ∧ n ≤ 40) (hk : 0 ≤ k ∧ k ≤ gK g) (hst : ∀ i, 0 ≤ i → i < tM (gT g) → h (x + 273) i = lt i) (hl : ∀ i, 0 ≤ lt i ∧ lt i ≤ 3) (kk : ∀ h', FrS h h' x → h' (x + 273) = h (x + 273) → Q (.inl [aI (if soB g (soR (gT g) lt n.toNat) k.toNat = true then 1 else 0)]) L h') : am_C G mX0_isSo (d + 430) [aR x, aI n, aI k] L h Q := by
  have hT := hI.1
  have hcT := hC.1
  have hK := hcT.mk
  have htx := hcT.tx
  have hht := hcT.ht
  have htr := hK.trial
  have hM := hT.1
  have hkk := hI.2.2.2.2.2.1
  have htold := hI.2.2.2.2.2.2.1
  obtain ⟨d1, d2⟩ := hC.2.2.2.1
  refine x_start okX0_isSo rfl rfl rfl rfl ?_
  refine x_aload_0 dX0_isSo_0 ?_
  refine x_getR dX0_isSo_1 fl579_0 rfl (by first | (exact MkL.k0 (by assumption)) | (assumption)) (by first | (exact MkL.v_trial (by assumption)) | (assumption)) ?_
  refine x_aload_0 dX0_isSo_4 ?_
  refine x_getW dX0_isSo_5 fl574_0 rfl (by first | (exact MkL.k0 (by assumption)) | (assumption)) (by assumption) ?_
  refine x_callV1 dX0_isSo_8 rfl okX5_begins q521 q522 q523 (by first | assumption | (exact ClL.k0 (by assumption))) am_k5 rfl (C_X5_begins htr hT htx (fun h1 hr1 hf1 => (x_k0 ?_)))
  refine x_iconst dX0_isSo_11 ?_
  refine x_istore_3 dX0_isSo_12 rfl ?_
  skip
  refine x_forA n (fun i hh (w : AV) => RC L hh (x + 48) (gT g) (soR (gT g) lt i.toNat) ∧ FrS h hh x ∧ hh (x + 273) = h (x + 273)) (fun i hh w => am_X G mX0_isSo (d + 430) 13 [aR x, aI n, aI k, aI i, w] [] L hh Q) (fun i hh w g0 g1 hP ih => ?_) h1 aU hn.1 ⟨hr1, hf1.trial, hf1 _ (by omega)⟩
  obtain ⟨p1, p2, p3⟩ := hP
  have hIi := soR_I (T := gT g) hT lt i.toNat
  have eM := soR_M (T := gT g) lt i.toNat
  refine x_iload_3 dX0_isSo_13 ?_
  refine x_iload_1 dX0_isSo_14 ?_
  refine x_icmp_ge (tgt := 86) dX0_isSo_15 rfl (by omega) (by omega) (fun c15 => ?_) (fun c15 => ?_)
  · refine x_iconst dX0_isSo_86 ?_
    refine x_istore_3 dX0_isSo_87 rfl ?_
    have ei : i = n := by omega
    rw [ei] at p1 hIi
    have tm : ∀ a, a = x + 271 ∨ a = x + 272 ∨ a = x + 274 → hh a = h a := fun a z => by funext j; exact p2 a j ⟨by omega, by omega⟩
    generalize soR (gT g) lt n.toNat = R at p1 hIi kk
    refine x_up0 k (fun j => 0 ≤ j → j ≤ k → soB g R j.toNat = true → am_X G mX0_isSo (d + 430) 88 [aR x, aI n, aI k, aI j, w] [] L hh Q) (fun j ihj y0 y1 y2 => ?_) 0 (by omega) hk.1 rfl
    refine x_iload_3 dX0_isSo_88 ?_
    refine x_iload_2 dX0_isSo_89 ?_
    refine x_icmp_ge (tgt := 137) dX0_isSo_90 rfl (by omega) (by omega) (fun c90 => ?_) (fun c90 => ?_)
    · refine x_iconst dX0_isSo_137 ?_
      refine x_zret dX0_isSo_138 rfl (by omega) ?_
      rw [show j = k by omega] at y2
      refine x_q1 ?_ (kk hh p2 p3)
      rw [if_pos y2]
    · have hj : j < k := by omega
      obtain ⟨t1, t2⟩ := htold j y0 (by omega)
      obtain ⟨em, eo, ev⟩ := d2 j y0 (by omega)
      rw [← tm _ (by omega)] at em
      rw [← tm _ (by omega)] at eo
      rw [← tm _ (by omega)] at ev
      refine x_aload_0 dX0_isSo_93 ?_
      refine x_getR dX0_isSo_94 fl579_0 rfl (by first | (exact MkL.k0 (by assumption)) | (assumption)) (by first | (exact MkL.v_trial (by assumption)) | (assumption)) ?_
      refine x_aload_0 dX0_isSo_97 ?_
      refine x_getR dX0_isSo_98 fl592_0 rfl (by first | (exact MkL.k0 (by assumption)) | (assumption)) (by first | (exact MkL.v_toldMan (by assumption)) | (assumption)) ?_
      refine x_iload_3 dX0_isSo_101 ?_
      refine x_iald_ dX0_isSo_102 (by first | (exact MkL.k_toldMan (by assumption)) | (assumption)) (by first | (exact MkL.x_toldMan (by assumption) (by omega) (by omega)) | (omega)) (fun r102 => ?_)
      rw [em] at r102 ⊢
      refine x_aload_0 dX0_isSo_103 ?_
      refine x_getR dX0_isSo_104 fl593_0 rfl (by first | (exact MkL.k0 (by assumption)) | (assumption)) (by first | (exact MkL.v_toldOther (by assumption)) | (assumption)) ?_
      refine x_iload_3 dX0_isSo_107 ?_
      refine x_iald_ dX0_isSo_108 (by first | (exact MkL.k_toldOther (by assumption)) | (assumption)) (by first | (exact MkL.x_toldOther (by assumption) (by omega) (by omega)) | (omega)) (fun r108 => ?_)
      rw [eo] at r108 ⊢
      refine x_callV2 dX0_isSo_109 rfl okX5_over q1311 q1312 q1313 (by first | assumption | (exact ClL.k0 (by assumption))) am_k5 rfl (C_X5_over p1 hIi hT ⟨by omega, by omega⟩ ⟨by omega, by omega⟩ (x_k1 ?_))
      refine x_if_le (tgt := 119) dX0_isSo_112 rfl (by have := ovR_bd hIi hT (m := gM g j) (n := gO g j) ⟨by omega, by omega⟩ ⟨by omega, by omega⟩; omega) (fun c112 => ?_) (fun c112 => ?_)
      · refine x_iconst dX0_isSo_119 ?_
        refine x_aload_0 dX0_isSo_120 ?_
        refine x_getR dX0_isSo_121 fl595_0 rfl (by first | (exact MkL.k0 (by assumption)) | (assumption)) (by first | (exact MkL.v_toldOver (by assumption)) | (assumption)) ?_
        refine x_iload_3 dX0_isSo_124 ?_
        refine x_zald_ dX0_isSo_125 (by first | (exact MkL.k_toldOver (by assumption)) | (assumption)) (by first | (exact MkL.x_toldOver (by assumption) (by omega) (by omega)) | (omega)) (fun r125 => ?_)
        rw [ev] at r125 ⊢
        refine x_icmp_eq (tgt := 131) dX0_isSo_126 rfl (by omega) (by omega) (fun c126 => ?_) (fun c126 => ?_)
        · refine x_iinc3 dX0_isSo_131 rfl ?_
          refine x_goto (tgt := 88) dX0_isSo_134 rfl ?_
          refine ihj hj (by omega) (by omega) ?_
          rw [show (j + 1).toNat = j.toNat + 1 by omega]
          show (soB g R j.toNat && decide _) = true
          rw [y2, Bool.true_and, show ((j.toNat : Nat) : Int) = j by omega]
          refine decide_eq_true ?_
          split <;> omega
        · refine x_iconst dX0_isSo_129 ?_
          refine x_zret dX0_isSo_130 rfl (by omega) ?_
          refine x_q1 ?_ (kk hh p2 p3)
          rw [soB_no (g := g) (R := R) (i := j.toNat) (fun z => by rw [show ((j.toNat : Nat) : Int) = j by omega] at z; split at z <;> omega) k.toNat (by omega)]
          rfl
      · refine x_iconst dX0_isSo_115 ?_
        refine x_goto (tgt := 120) dX0_isSo_116 rfl ?_
        refine x_aload_0 dX0_isSo_120 ?_
        refine x_getR dX0_isSo_121 fl595_0 rfl (by first | (exact MkL.k0 (by assumption)) | (assumption)) (by first | (exact MkL.v_toldOver (by assumption)) | (assumption)) ?_
        refine x_iload_3 dX0_isSo_124 ?_
        refine x_zald_ dX0_isSo_125 (by first | (exact MkL.k_toldOver (by assumption)) | (assumption)) (by first | (exact MkL.x_toldOver (by assumption) (by omega) (by omega)) | (omega)) (fun r125 => ?_)
        rw [ev] at r125 ⊢
        refine x_icmp_eq (tgt := 131) dX0_isSo_126 rfl (by omega) (by omega) (fun c126 => ?_) (fun c126 => ?_)
        · refine x_iinc3 dX0_isSo_131 rfl ?_
          refine x_goto (tgt := 88) dX0_isSo_134 rfl ?_
          refine ihj hj (by omega) (by omega) ?_
          rw [show (j + 1).toNat = j.toNat + 1 by omega]
          show (soB g R j.toNat && decide _) = true
          rw [y2, Bool.true_and, show ((j.toNat : Nat) : Int) = j by omega]
          refine decide_eq_true ?_
          split <;> omega
        · refine x_iconst dX0_isSo_129 ?_
          refine x_zret dX0_isSo_130 rfl (by omega) ?_
          refine x_q1 ?_ (kk hh p2 p3)
          rw [soB_no (g := g) (R := R) (i := j.toNat) (fun z => by rw [show ((j.toNat : Nat) : Int) = j by omega] at z; split at z <;> omega) k.toNat (by omega)]
          rfl
  · refine x_iconst dX0_isSo_18 ?_
    refine x_istore4 dX0_isSo_19 rfl ?_
    have hi : i < n := by omega
    refine x_for (tM (gT g)) (fun j h2 => RC L h2 (x + 48) (gT g) (goL (gT g) (soR (gT g) lt i.toNat) lt j.toNat) ∧ FrS h h2 x ∧ h2 (x + 273) = h (x + 273)) (fun j h2 => am_X G mX0_isSo (d + 430) 21 [aR x, aI n, aI k, aI i, aI j] [] L h2 Q) (fun j h2 y0 y1 hP2 ih2 => ?_) hh hM.1 ⟨p1, p2, p3⟩
    obtain ⟨u1, u2, u3⟩ := hP2
    have hC2 := hcT.fr u2
    have hht2 := hC2.ht
    have hIj := hIi.goLl hT lt j.toNat (by omega)
    have eMj := goL_M (T := gT g) (S := soR (gT g) lt i.toNat) lt j.toNat
    have gs := goL_s (T := gT g) (S := soR (gT g) lt i.toNat) lt y0
    have blj := hl j
    refine x_iload4 dX0_isSo_21 ?_
    refine x_aload_0 dX0_isSo_23 ?_
    refine x_callV0 dX0_isSo_24 rfl okX0_men q1196 q1198 qs33 (by first | assumption | (exact MkL.k0 (by assumption))) am_k0 rfl (C_X0_men hC2 (x_k1 ?_))
    refine x_icmp_ge (tgt := 67) dX0_isSo_27 rfl (by omega) (by omega) (fun c27 => ?_) (fun c27 => ?_)
    · have ej : j = tM (gT g) := by omega
      rw [ej] at u1 eMj
      have em : h2 (x + 48) 8 = (i : Int) := by rw [u1.2.2.2.2.2.1]; omega
      refine x_aload_0 dX0_isSo_67 ?_
      refine x_getR dX0_isSo_68 fl579_0 rfl (by first | (exact MkL.k0 (by assumption)) | (assumption)) (by first | (exact MkL.v_trial (by assumption)) | (assumption)) ?_
      refine x_dup dX0_isSo_71 rfl ?_
      refine x_getI_ dX0_isSo_72 fl451_5 (by first | (exact ClL.k0 (by assumption)) | (assumption)) (fun r72 => ?_)
      rw [em] at r72 ⊢
      refine x_iconst dX0_isSo_75 ?_
      refine x_iadd dX0_isSo_76 ?_
      refine x_putI_ dX0_isSo_77 fl451_5 (by first | (exact ClL.k0 (by assumption)) | (assumption)) (by omega) ?_
      refine x_iinc3 dX0_isSo_80 rfl ?_
      refine x_goto (tgt := 13) dX0_isSo_83 rfl ?_
      refine ih _ _ hi ⟨?_, u2.tr (fun a i z => by rw [am_st_o (by omega)]), by rw [am_st_o (by omega)]; exact u3⟩
      have := u1.tick
      rw [eMj, eM, show ((i.toNat : Nat) : Int) = i by omega] at this
      rw [show (i + 1).toNat = i.toNat + 1 by omega]
      exact this
    · have hj : j < tM (gT g) := by omega
      have es : h2 (x + 273) j = lt j := by rw [u3]; exact hst j y0 hj
      refine x_iload_3 dX0_isSo_30 ?_
      refine x_aload_0 dX0_isSo_31 ?_
      refine x_getR dX0_isSo_32 fl594_0 rfl (by first | (exact MkL.k0 (by assumption)) | (assumption)) (by first | (exact MkL.v_start (by assumption)) | (assumption)) ?_
      refine x_iload4 dX0_isSo_35 ?_
      refine x_iald_ dX0_isSo_37 (by first | (exact MkL.k_start (by assumption)) | (assumption)) (by first | (exact MkL.x_start (by assumption) (by omega) (by omega)) | (omega)) (fun r37 => ?_)
      rw [es] at r37 ⊢
      refine x_icmp_lt (tgt := 61) dX0_isSo_38 rfl (by omega) (by omega) (fun c38 => ?_) (fun c38 => ?_)
      · refine x_iinc4 dX0_isSo_61 rfl ?_
        refine x_goto (tgt := 21) dX0_isSo_64 rfl ?_
        first
        | (refine ih2 _ hj ⟨?_, u2, u3⟩; rw [gs, if_pos (by omega)]; exact u1)
        | (refine ih2 _ hj ⟨?_, u2.tr hf3.trial, by rw [hf3 _ (by omega)]; exact u3⟩; rw [gs, if_neg (by omega)]; exact hr3)
      · refine x_aload_0 dX0_isSo_41 ?_
        refine x_getR dX0_isSo_42 fl579_0 rfl (by first | (exact MkL.k0 (by assumption)) | (assumption)) (by first | (exact MkL.v_trial (by assumption)) | (assumption)) ?_
        refine x_aload_0 dX0_isSo_45 ?_
        refine x_getW dX0_isSo_46 fl574_0 rfl (by first | (exact MkL.k0 (by assumption)) | (assumption)) (by assumption) ?_
        refine x_iload4 dX0_isSo_49 ?_
        refine x_aload_0 dX0_isSo_51 ?_
        refine x_getR dX0_isSo_52 fl594_0 rfl (by first | (exact MkL.k0 (by assumption)) | (assumption)) (by first | (exact MkL.v_start (by assumption)) | (assumption)) ?_
        refine x_iload4 dX0_isSo_55 ?_
        refine x_iald_ dX0_isSo_57 (by first | (exact MkL.k_start (by assumption)) | (assumption)) (by first | (exact MkL.x_start (by assumption) (by omega) (by omega)) | (omega)) (fun r57 => ?_)
        rw [es] at r57 ⊢
        refine x_callV3 dX0_isSo_58 rfl okX5_goes q1532 q1293 q1294 (by first | assumption | (exact ClL.k0 (by assumption))) am_k5 rfl (C_goes3 u1 hIj ⟨by omega, by omega⟩ hT htx ⟨y0, hj⟩ blj (fun h3 hr3 hf3 => (x_k0 ?_)))
        refine x_iinc4 dX0_isSo_61 rfl ?_
        refine x_goto (tgt := 21) dX0_isSo_64 rfl ?_
        first
        | (refine ih2 _ hj ⟨?_, u2, u3⟩; rw [gs, if_pos (by omega)]; exact u1)
        | (refine ih2 _ hj ⟨?_, u2.tr hf3.trial, by rw [hf3 _ (by omega)]; exact u3⟩; rw [gs, if_neg (by omega)]; exact hr3)
set_option maxHeartbeats 8000000 in
theorem C_X0_starts {m n k : Int} (hC : CoI L h x t g) (hI : SgI g b q) (hm : rg32 m) (hn : rg32 n) (hk : rg32 k) (kk : ∀ h', FrS h h' x → Q (.inl [aI (startsV g m n k)]) L h') : am_C G mX0_starts (d + 440) [aR x, aI m, aI n, aI k] L h Q := by
  have hT := hI.1
  have hcT := hC.1
  have hK := hcT.mk
  have hM := hT.1
  have hkk := hI.2.2.2.2.2.1
  obtain ⟨d1, -⟩ := hC.2.2.2.1
  refine x_start okX0_starts rfl rfl rfl rfl ?_
  refine x_iload_1 dX0_starts_0 ?_
  refine x_iconst dX0_starts_1 ?_
  refine x_iconst dX0_starts_2 ?_
  refine x_callS3 dX0_starts_3 rfl okX0_isIn q1201 q1202 rfl (C_X0_isIn hm ⟨by decide, by decide⟩ ⟨by decide, by decide⟩ (x_k1 ?_))
  refine x_if_eq (tgt := 31) dX0_starts_6 rfl (by split <;> omega) (fun c6 => ?_) (fun c6 => ?_)
  · skip
    refine x_iconst dX0_starts_31 ?_
    refine x_iret dX0_starts_32 rfl ?_
    refine x_q1 ?_ (kk h (FrS.rf h x))
    unfold startsV
    rw [if_neg (fun z => by obtain ⟨z1, z2, z3⟩ := z; first | (rw [if_pos z1] at c6; omega) | (rw [if_pos z2] at c16; omega) | (rw [if_pos z3] at c28; omega))]
  · refine x_iload_2 dX0_starts_9 ?_
    refine x_iconst dX0_starts_10 ?_
    refine x_bipush dX0_starts_11 rfl ?_
    refine x_callS3 dX0_starts_13 rfl okX0_isIn q1201 q1202 rfl (C_X0_isIn hn ⟨by decide, by decide⟩ ⟨by decide, by decide⟩ (x_k1 ?_))
    refine x_if_eq (tgt := 31) dX0_starts_16 rfl (by split <;> omega) (fun c16 => ?_) (fun c16 => ?_)
    · skip
      refine x_iconst dX0_starts_31 ?_
      refine x_iret dX0_starts_32 rfl ?_
      refine x_q1 ?_ (kk h (FrS.rf h x))
      unfold startsV
      rw [if_neg (fun z => by obtain ⟨z1, z2, z3⟩ := z; first | (rw [if_pos z1] at c6; omega) | (rw [if_pos z2] at c16; omega) | (rw [if_pos z3] at c28; omega))]
    · refine x_iload_3 dX0_starts_19 ?_
      refine x_iconst dX0_starts_20 ?_
      refine x_aload_0 dX0_starts_21 ?_
      refine x_getI_ dX0_starts_22 fl591_0 (by first | (exact MkL.k0 (by assumption)) | (assumption)) (fun r22 => ?_)
      rw [d1] at r22 ⊢
      refine x_callS3 dX0_starts_25 rfl okX0_isIn q1201 q1202 rfl (C_X0_isIn hk ⟨by decide, by decide⟩ ⟨by omega, by omega⟩ (x_k1 ?_))
      refine x_if_ne (tgt := 33) dX0_starts_28 rfl (by split <;> omega) (fun c28 => ?_) (fun c28 => ?_)
      · refine x_iconst dX0_starts_33 ?_
        refine x_istore4 dX0_starts_34 rfl ?_
        refine x_iconst dX0_starts_36 ?_
        refine x_istore5 dX0_starts_37 rfl ?_
        refine x_iconst dX0_starts_39 ?_
        refine x_istore6 dX0_starts_40 rfl ?_
        have hm1 : 0 ≤ m ∧ m ≤ 3 := by split at c6 <;> omega
        have hn1 : 0 ≤ n ∧ n ≤ 40 := by split at c16 <;> omega
        have hk1 : 0 ≤ k ∧ k ≤ gK g := by split at c28 <;> omega
        have eV : startsV g m n k = if 1000 < stA m (tM (gT g)).toNat then -2 else sumI (stA m (tM (gT g)).toNat) (soI g m n k) := by
          unfold startsV
          rw [if_pos ⟨hm1, hn1, hk1⟩]
        have bA : ∀ i : Nat, (i : Int) ≤ 7 → 1 ≤ stA m i ∧ stA m i ≤ 16384 := fun i z => by
          have := stA_bd hm1 i
          have h2 : 4 ^ i ≤ 4 ^ 7 := Nat.pow_le_pow_right (by decide) (by omega)
          omega
        refine x_up0 (tM (gT g)) (fun i => 0 ≤ i → i ≤ tM (gT g) → am_X G mX0_starts (d + 440) 42 [aR x, aI m, aI n, aI k, aI (stA m i.toNat), aI 0, aI i, aU, aU] [] L h Q) (fun i ih g0 g1 => ?_) 0 (by omega) hM.1
        have bi := bA i.toNat (by omega)
        refine x_iload6 dX0_starts_42 ?_
        refine x_aload_0 dX0_starts_44 ?_
        refine x_callV0 dX0_starts_45 rfl okX0_men q1196 q1198 qs33 (by first | assumption | (exact MkL.k0 (by assumption))) am_k0 rfl (C_X0_men hcT (x_k1 ?_))
        refine x_icmp_ge (tgt := 65) dX0_starts_48 rfl (by omega) (by omega) (fun c48 => ?_) (fun c48 => ?_)
        · refine x_iload4 dX0_starts_65 ?_
          refine x_sipush dX0_starts_67 rfl ?_
          refine x_icmp_le (tgt := 76) dX0_starts_70 rfl (by omega) (by omega) (fun c70 => ?_) (fun c70 => ?_)
          · refine x_iconst dX0_starts_76 ?_
            refine x_istore6 dX0_starts_77 rfl ?_
            rw [show i = tM (gT g) by omega] at c70 bi ⊢
            rw [if_neg (by omega)] at eV
            clear ih
            generalize stA m (tM (gT g)).toNat = A at c70 eV bi ⊢
            refine x_forA A (fun i hh (w : AV × AV) => FrS h hh x) (fun i hh w => am_X G mX0_starts (d + 440) 79 [aR x, aI m, aI n, aI k, aI A, aI (sumI i (soI g m n k)), aI i, w.1, w.2] [] L hh Q) (fun i hh w y0 y1 hP ih => ?_) h (aU, aU) (by omega) (FrS.rf h x)
            refine x_iload6 dX0_starts_79 ?_
            refine x_iload4 dX0_starts_81 ?_
            refine x_icmp_ge (tgt := 154) dX0_starts_83 rfl (by omega) (by omega) (fun c83 => ?_) (fun c83 => ?_)
            · refine x_iload5 dX0_starts_154 ?_
              refine x_iret dX0_starts_156 rfl ?_
              refine x_q1 ?_ (kk hh hP)
              rw [eV, show i = A by omega]
            · refine x_iload6 dX0_starts_86 ?_
              refine x_istore7 dX0_starts_88 rfl ?_
              refine x_iconst dX0_starts_90 ?_
              refine x_istore8 dX0_starts_91 rfl ?_
              have hi : i < A := by omega
              refine x_for (tM (gT g)) (fun j h2 => FrS h h2 x ∧ ∀ o, 0 ≤ o → o < j → h2 (x + 273) o = ltS m i o) (fun j h2 => am_X G mX0_starts (d + 440) 93 [aR x, aI m, aI n, aI k, aI A, aI (sumI i (soI g m n k)), aI i, aI (rsN m i j.toNat), aI j] [] L h2 Q) (fun j h2 z0 z1 hP2 ih2 => ?_) hh hM.1 ⟨hP, fun o z2 z3 => by omega⟩
              obtain ⟨u1, u2⟩ := hP2
              have br := rsN_bd hm1 (row := i) ⟨by omega, by omega⟩ j.toNat
              have e1 : bRem (rsN m i j.toNat) (m + 1) = rsN m i j.toNat % (m + 1) := bRem_nn ⟨by omega, by omega⟩ ⟨by omega, by omega⟩
              have e2 : bDiv (rsN m i j.toNat) (m + 1) = rsN m i j.toNat / (m + 1) := bDiv_nn ⟨by omega, by omega⟩ ⟨by omega, by omega⟩
              have bl := ltS_bd hm1 i j
              have e3 : ltS m i j = rsN m i j.toNat % (m + 1) := rfl
              have hC2 := hcT.fr u1
              refine x_iload8 dX0_starts_93 ?_
              refine x_aload_0 dX0_starts_95 ?_
              refine x_callV0 dX0_starts_96 rfl okX0_men q1196 q1198 qs33 (by first | assumption | (exact MkL.k0 (by assumption))) am_k0 rfl (C_X0_men hC2 (x_k1 ?_))
              refine x_icmp_ge (tgt := 129) dX0_starts_99 rfl (by omega) (by omega) (fun c99 => ?_) (fun c99 => ?_)
              · refine x_iload5 dX0_starts_129 ?_
                refine x_aload_0 dX0_starts_131 ?_
                refine x_iload_2 dX0_starts_132 ?_
                refine x_iload_3 dX0_starts_133 ?_
                refine x_callV2 dX0_starts_134 rfl okX0_isSo q1528 q1530 qs51 (by first | assumption | (exact MkL.k0 (by assumption))) am_k0 rfl (C_X0_isSo (lt := ltS m i) (hC.fr hT u1) hI hn1 hk1 (fun o z2 z3 => u2 o z2 (by omega)) (fun o => ltS_bd hm1 i o) (fun h3 f3 e4 => (x_k1 ?_)))
                refine x_if_eq (tgt := 144) dX0_starts_137 rfl (by split <;> omega) (fun c137 => ?_) (fun c137 => ?_)
                · refine x_iconst dX0_starts_144 ?_
                  refine x_iadd dX0_starts_145 ?_
                  refine x_istore5 dX0_starts_146 rfl ?_
                  refine x_iinc6 dX0_starts_148 rfl ?_
                  refine x_goto (tgt := 79) dX0_starts_151 rfl ?_
                  have := ih h3 (aI (rsN m i j.toNat), aI j) hi (u1.tr f3)
                  rw [sumI_s _ y0] at this
                  have es : soI g m n k i = if soB g (soR (gT g) (ltS m i) n.toNat) k.toNat = true then 1 else 0 := rfl
                  split at c137
                  · rename_i z
                    rw [if_pos z] at es
                    first
                    | (exfalso; omega)
                    | (rw [es] at this; exact this)
                  · rename_i z
                    rw [if_neg z] at es
                    first
                    | (exfalso; omega)
                    | (rw [es] at this; exact this)
                · refine x_iconst dX0_starts_140 ?_
                  refine x_goto (tgt := 145) dX0_starts_141 rfl ?_
                  refine x_iadd dX0_starts_145 ?_
                  refine x_istore5 dX0_starts_146 rfl ?_
                  refine x_iinc6 dX0_starts_148 rfl ?_
                  refine x_goto (tgt := 79) dX0_starts_151 rfl ?_
                  have := ih h3 (aI (rsN m i j.toNat), aI j) hi (u1.tr f3)
                  rw [sumI_s _ y0] at this
                  have es : soI g m n k i = if soB g (soR (gT g) (ltS m i) n.toNat) k.toNat = true then 1 else 0 := rfl
                  split at c137
                  · rename_i z
                    rw [if_pos z] at es
                    first
                    | (exfalso; omega)
                    | (rw [es] at this; exact this)
                  · rename_i z
                    rw [if_neg z] at es
                    first
                    | (exfalso; omega)
                    | (rw [es] at this; exact this)
              · refine x_aload_0 dX0_starts_102 ?_
                refine x_getR dX0_starts_103 fl594_0 rfl (by first | (exact MkL.k0 (by assumption)) | (assumption)) (by first | (exact MkL.v_start (by assumption)) | (assumption)) ?_
                refine x_iload8 dX0_starts_106 ?_
                refine x_iload7 dX0_starts_108 ?_
                refine x_iload_1 dX0_starts_110 ?_
                refine x_iconst dX0_starts_111 ?_
                refine x_iadd dX0_starts_112 ?_
                refine x_irem dX0_starts_113 (by omega) (by omega) ?_
                refine x_iast_ dX0_starts_114 (by first | (exact MkL.k_start (by assumption)) | (assumption)) (by first | (exact MkL.x_start (by assumption) (by omega) (by omega)) | (omega)) (by rw [e1, ← e3]; omega) ?_
                refine x_iload7 dX0_starts_115 ?_
                refine x_iload_1 dX0_starts_117 ?_
                refine x_iconst dX0_starts_118 ?_
                refine x_iadd dX0_starts_119 ?_
                refine x_idiv dX0_starts_120 (by omega) (by omega) ?_
                refine x_istore7 dX0_starts_121 rfl ?_
                refine x_iinc8 dX0_starts_123 rfl ?_
                refine x_goto (tgt := 93) dX0_starts_126 rfl ?_
                have := ih2 (am_st h2 (x + 273) j (ltS m i j)) (by omega) ⟨u1.tr (FrS.wt (by omega)), fun o z2 z3 => by
                  rw [am_st_at]
                  by_cases e : o = j
                  · rw [if_pos ⟨rfl, e⟩, e]
                  · rw [if_neg (fun z => e z.2)]
                    exact u2 o z2 (by omega)⟩
                rw [rsN_s z0, ← e2, e3, ← e1] at this
                exact this
          · refine x_bipush dX0_starts_73 rfl ?_
            refine x_iret dX0_starts_75 rfl ?_
            rw [show i = tM (gT g) by omega] at c70
            refine x_q1 ?_ (kk h (FrS.rf h x))
            rw [eV, if_pos (by omega)]
        · refine x_iload4 dX0_starts_51 ?_
          refine x_iload_1 dX0_starts_53 ?_
          refine x_iconst dX0_starts_54 ?_
          refine x_iadd dX0_starts_55 ?_
          refine x_imul dX0_starts_56 ?_
          refine x_istore4 dX0_starts_57 rfl ?_
          refine x_iinc6 dX0_starts_59 rfl ?_
          refine x_goto (tgt := 42) dX0_starts_62 rfl ?_
          have := ih (by omega) (by omega) (by omega)
          rw [stA_s g0] at this
          exact this
      · skip
        refine x_iconst dX0_starts_31 ?_
        refine x_iret dX0_starts_32 rfl ?_
        refine x_q1 ?_ (kk h (FrS.rf h x))
        unfold startsV
        rw [if_neg (fun z => by obtain ⟨z1, z2, z3⟩ := z; first | (rw [if_pos z1] at c6; omega) | (rw [if_pos z2] at c16; omega) | (rw [if_pos z3] at c28; omega))]
set_option maxHeartbeats 8000000 in
theorem C_X13_isSo {row m n k : Int} (hC : TwI L h o s g) (hI : SgI g b q) (hr : 0 ≤ row ∧ row ≤ 1000) (hm : 0 ≤ m ∧ m ≤ 3) (hn : 0 ≤ n ∧ n ≤ 40) (hk : 0 ≤ k ∧ k ≤ gK g) (kk : ∀ h', FrW h h' o → Q (.inl [aI (soI g m n k row)]) L h') : am_C G mX13_isSo (d + 10) [aR o, aI row, aI m, aI n, aI k] L h Q := by
  have hT := hI.1
  have hM0 := hC.1.1
  have hL := hM0.1
  have hs := hM0.2.1
  have hM := hT.1
  have hkk := hI.2.2.2.2.2.1
  have htold := hI.2.2.2.2.2.2.1
  obtain ⟨d1, d2⟩ := hC.2.2.2.1
  refine x_start okX13_isSo rfl rfl rfl rfl ?_
  refine x_aload_0 dX13_isSo_0 ?_
  refine x_callV0 dX13_isSo_1 rfl okX13_begins q1567 q1569 qs53 (by first | assumption | (exact MdL.k0 (by assumption))) am_k13 rfl (C_X13_begins hM0 hT (fun h1 e1 e2 e3 => (x_k0 ?_)))
  refine x_iload_1 dX13_isSo_4 ?_
  refine x_istore5 dX13_isSo_5 rfl ?_
  refine x_iconst dX13_isSo_7 ?_
  refine x_istore6 dX13_isSo_8 rfl ?_
  skip
  have f1 : FrW h h1 o := fun a i z => by rw [e1 a (by omega) (by omega)]
  refine x_for (tM (gT g)) (fun j h2 => FrW h h2 o ∧ h2 (o + 38) = h1 (o + 38) ∧ ∀ a, 0 ≤ a → a < j → h2 (o + 39) a = ltS m row a) (fun j h2 => am_X G mX13_isSo (d + 10) 10 [aR o, aI row, aI m, aI n, aI k, aI (rsN m row j.toNat), aI j] [] L h2 Q) (fun j h2 z0 z1 hP2 ih2 => ?_) h1 hM.1 ⟨f1, rfl, fun a z2 z3 => by omega⟩
  obtain ⟨u1, u2, u3⟩ := hP2
  have br := rsN_bd hm (row := row) hr j.toNat
  have q1 : bRem (rsN m row j.toNat) (m + 1) = rsN m row j.toNat % (m + 1) := bRem_nn ⟨by omega, by omega⟩ ⟨by omega, by omega⟩
  have q2 : bDiv (rsN m row j.toNat) (m + 1) = rsN m row j.toNat / (m + 1) := bDiv_nn ⟨by omega, by omega⟩ ⟨by omega, by omega⟩
  have bl := ltS_bd hm row j
  have q3 : ltS m row j = rsN m row j.toNat % (m + 1) := rfl
  have hM2 := hM0.fr u1
  have hlv := hM2.2.2.1
  have hmen := hM2.2.2.2.1
  refine x_iload6 dX13_isSo_10 ?_
  refine x_aload_0 dX13_isSo_12 ?_
  refine x_getR dX13_isSo_13 fl1598_13 rfl (by first | (exact MdL.k0 (by assumption)) | (assumption)) (by first | (exact MdL.v_men (by assumption)) | (assumption)) ?_
  refine x_aload_0 dX13_isSo_16 ?_
  refine x_getI_ dX13_isSo_17 fl1592_13 (by first | (exact MdL.k0 (by assumption)) | (assumption)) (fun r17 => ?_)
  rw [hlv] at r17 ⊢
  refine x_iald_ dX13_isSo_20 (by first | (exact MdL.k_men (by assumption)) | (assumption)) (by first | (exact MdL.x_men (by assumption) (by omega) (by omega)) | (omega)) (fun r20 => ?_)
  rw [hmen] at r20 ⊢
  refine x_icmp_ge (tgt := 51) dX13_isSo_21 rfl (by omega) (by omega) (fun c21 => ?_) (fun c21 => ?_)
  · refine x_iconst dX13_isSo_51 ?_
    refine x_istore6 dX13_isSo_52 rfl ?_
    have ej : j = tM (gT g) := by omega
    rw [ej] at u3
    generalize rsN m row j.toNat = rest
    clear hM2 hlv hmen ih2
    refine x_for n (fun i h3 => FrW h h3 o ∧ RwF (h3 (o + 38)) (tM (gT g)) (soR (gT g) (ltS m row) i.toNat) ∧ ∀ a, 0 ≤ a → a < tM (gT g) → h3 (o + 39) a = ltS m row a) (fun i h3 => am_X G mX13_isSo (d + 10) 54 [aR o, aI row, aI m, aI n, aI k, aI rest, aI i] [] L h3 Q) (fun i h3 y0 y1 hP3 ih3 => ?_) h2 hn.1 ⟨u1, by rw [u2]; exact e2, u3⟩
    obtain ⟨v1, v2, v3⟩ := hP3
    have hM3 := hM0.fr v1
    have hIi := soR_I (T := gT g) hT (ltS m row) i.toNat
    refine x_iload6 dX13_isSo_54 ?_
    refine x_iload_3 dX13_isSo_56 ?_
    refine x_icmp_ge (tgt := 70) dX13_isSo_57 rfl (by omega) (by omega) (fun c57 => ?_) (fun c57 => ?_)
    · refine x_iconst dX13_isSo_70 ?_
      refine x_istore6 dX13_isSo_71 rfl ?_
      have ei : i = n := by omega
      rw [ei] at v2 hIi
      have tm : ∀ a, a = (o + 48) ∨ a = (o + 49) ∨ a = (o + 50) → h3 a = h a := fun a z => by funext j; exact v1 a j ⟨by omega, by omega⟩
      have eI : soI g m n k row = if soB g (soR (gT g) (ltS m row) n.toNat) k.toNat = true then 1 else 0 := rfl
      generalize soR (gT g) (ltS m row) n.toNat = R at v2 hIi eI
      refine x_up0 k (fun j => 0 ≤ j → j ≤ k → soB g R j.toNat = true → am_X G mX13_isSo (d + 10) 73 [aR o, aI row, aI m, aI n, aI k, aI rest, aI j] [] L h3 Q) (fun j ihj y0 y1 y2 => ?_) 0 (by omega) hk.1 rfl
      refine x_iload6 dX13_isSo_73 ?_
      refine x_iload4 dX13_isSo_75 ?_
      refine x_icmp_ge (tgt := 124) dX13_isSo_77 rfl (by omega) (by omega) (fun c77 => ?_) (fun c77 => ?_)
      · refine x_iconst dX13_isSo_124 ?_
        refine x_zret dX13_isSo_125 rfl (by omega) ?_
        rw [show j = k by omega] at y2
        refine x_q1 ?_ (kk h3 v1)
        rw [eI, if_pos y2]
      · have hj : j < k := by omega
        obtain ⟨t1, t2⟩ := htold j y0 (by omega)
        obtain ⟨em, eo, ev⟩ := d2 j y0 (by omega)
        rw [← tm _ (by omega)] at em
        rw [← tm _ (by omega)] at eo
        rw [← tm _ (by omega)] at ev
        refine x_aload_0 dX13_isSo_80 ?_
        refine x_aload_0 dX13_isSo_81 ?_
        refine x_getR dX13_isSo_82 fl1644_13 rfl (by first | (exact MdL.k0 (by assumption)) | (assumption)) (by first | (exact MdL.v_toldMan (by assumption)) | (assumption)) ?_
        refine x_iload6 dX13_isSo_85 ?_
        refine x_iald_ dX13_isSo_87 (by first | (exact MdL.k_toldMan (by assumption)) | (assumption)) (by first | (exact MdL.x_toldMan (by assumption) (by omega) (by omega)) | (omega)) (fun r87 => ?_)
        rw [em] at r87 ⊢
        refine x_aload_0 dX13_isSo_88 ?_
        refine x_getR dX13_isSo_89 fl1645_13 rfl (by first | (exact MdL.k0 (by assumption)) | (assumption)) (by first | (exact MdL.v_toldOther (by assumption)) | (assumption)) ?_
        refine x_iload6 dX13_isSo_92 ?_
        refine x_iald_ dX13_isSo_94 (by first | (exact MdL.k_toldOther (by assumption)) | (assumption)) (by first | (exact MdL.x_toldOther (by assumption) (by omega) (by omega)) | (omega)) (fun r94 => ?_)
        rw [eo] at r94 ⊢
        refine x_callV2 dX13_isSo_95 rfl okX13_overOf q2038 q2040 qs94 (by first | assumption | (exact MdL.k0 (by assumption))) am_k13 rfl (C_X13_overOf hL v2 hIi hT t1.1 t1.2.1 (x_k1 ?_))
        refine x_if_le (tgt := 105) dX13_isSo_98 rfl (by have := ovR_bd hIi hT (m := gM g j) (n := gO g j) ⟨by omega, by omega⟩ ⟨by omega, by omega⟩; omega) (fun c98 => ?_) (fun c98 => ?_)
        · refine x_iconst dX13_isSo_105 ?_
          refine x_aload_0 dX13_isSo_106 ?_
          refine x_getR dX13_isSo_107 fl1646_13 rfl (by first | (exact MdL.k0 (by assumption)) | (assumption)) (by first | (exact MdL.v_toldOver (by assumption)) | (assumption)) ?_
          refine x_iload6 dX13_isSo_110 ?_
          refine x_zald_ dX13_isSo_112 (by first | (exact MdL.k_toldOver (by assumption)) | (assumption)) (by first | (exact MdL.x_toldOver (by assumption) (by omega) (by omega)) | (omega)) (fun r112 => ?_)
          rw [ev] at r112 ⊢
          refine x_icmp_eq (tgt := 118) dX13_isSo_113 rfl (by omega) (by omega) (fun c113 => ?_) (fun c113 => ?_)
          · refine x_iinc6 dX13_isSo_118 rfl ?_
            refine x_goto (tgt := 73) dX13_isSo_121 rfl ?_
            refine ihj hj (by omega) (by omega) ?_
            rw [show (j + 1).toNat = j.toNat + 1 by omega]
            show (soB g R j.toNat && decide _) = true
            rw [y2, Bool.true_and, show ((j.toNat : Nat) : Int) = j by omega]
            refine decide_eq_true ?_
            split <;> omega
          · refine x_iconst dX13_isSo_116 ?_
            refine x_zret dX13_isSo_117 rfl (by omega) ?_
            refine x_q1 ?_ (kk h3 v1)
            rw [eI, soB_no (g := g) (R := R) (i := j.toNat) (fun z => by rw [show ((j.toNat : Nat) : Int) = j by omega] at z; split at z <;> omega) k.toNat (by omega)]
            rfl
        · refine x_iconst dX13_isSo_101 ?_
          refine x_goto (tgt := 106) dX13_isSo_102 rfl ?_
          refine x_aload_0 dX13_isSo_106 ?_
          refine x_getR dX13_isSo_107 fl1646_13 rfl (by first | (exact MdL.k0 (by assumption)) | (assumption)) (by first | (exact MdL.v_toldOver (by assumption)) | (assumption)) ?_
          refine x_iload6 dX13_isSo_110 ?_
          refine x_zald_ dX13_isSo_112 (by first | (exact MdL.k_toldOver (by assumption)) | (assumption)) (by first | (exact MdL.x_toldOver (by assumption) (by omega) (by omega)) | (omega)) (fun r112 => ?_)
          rw [ev] at r112 ⊢
          refine x_icmp_eq (tgt := 118) dX13_isSo_113 rfl (by omega) (by omega) (fun c113 => ?_) (fun c113 => ?_)
          · refine x_iinc6 dX13_isSo_118 rfl ?_
            refine x_goto (tgt := 73) dX13_isSo_121 rfl ?_
            refine ihj hj (by omega) (by omega) ?_
            rw [show (j + 1).toNat = j.toNat + 1 by omega]
            show (soB g R j.toNat && decide _) = true
            rw [y2, Bool.true_and, show ((j.toNat : Nat) : Int) = j by omega]
            refine decide_eq_true ?_
            split <;> omega
          · refine x_iconst dX13_isSo_116 ?_
            refine x_zret dX13_isSo_117 rfl (by omega) ?_
            refine x_q1 ?_ (kk h3 v1)
            rw [eI, soB_no (g := g) (R := R) (i := j.toNat) (fun z => by rw [show ((j.toNat : Nat) : Int) = j by omega] at z; split at z <;> omega) k.toNat (by omega)]
            rfl
    · refine x_aload_0 dX13_isSo_60 ?_
      refine x_callV0 dX13_isSo_61 rfl okX13_minuteGoes q2022 q2024 qs92 (by first | assumption | (exact MdL.k0 (by assumption))) am_k13 rfl (C_X13_minuteGoes (lt := ltS m row) hM3 hT v2 hIi ⟨by omega, by omega⟩ v3 (fun a => by have := ltS_bd hm row a; omega) (fun h4 r4 f4 => (x_k0 ?_)))
      refine x_iinc6 dX13_isSo_64 rfl ?_
      refine x_goto (tgt := 54) dX13_isSo_67 rfl ?_
      refine ih3 h4 (by omega) ⟨v1.tr f4.w, ?_, fun a z2 z3 => by rw [f4.later]; exact v3 a z2 z3⟩
      rw [show (i + 1).toNat = i.toNat + 1 by omega]
      exact r4
  · refine x_aload_0 dX13_isSo_24 ?_
    refine x_getR dX13_isSo_25 fl1631_13 rfl (by first | (exact MdL.k0 (by assumption)) | (assumption)) (by first | (exact MdL.v_later (by assumption)) | (assumption)) ?_
    refine x_iload6 dX13_isSo_28 ?_
    refine x_iload5 dX13_isSo_30 ?_
    refine x_iload_2 dX13_isSo_32 ?_
    refine x_iconst dX13_isSo_33 ?_
    refine x_iadd dX13_isSo_34 ?_
    refine x_irem dX13_isSo_35 (by omega) (by omega) ?_
    refine x_iast_ dX13_isSo_36 (by first | (exact MdL.k_later (by assumption)) | (assumption)) (by first | (exact MdL.x_later (by assumption) (by omega) (by omega)) | (omega)) (by rw [q1, ← q3]; omega) ?_
    refine x_iload5 dX13_isSo_37 ?_
    refine x_iload_2 dX13_isSo_39 ?_
    refine x_iconst dX13_isSo_40 ?_
    refine x_iadd dX13_isSo_41 ?_
    refine x_idiv dX13_isSo_42 (by omega) (by omega) ?_
    refine x_istore5 dX13_isSo_43 rfl ?_
    refine x_iinc6 dX13_isSo_45 rfl ?_
    refine x_goto (tgt := 10) dX13_isSo_48 rfl ?_
    have := ih2 (am_st h2 (o + 39) j (ltS m row j)) (by omega) ⟨u1.tr (FrW.arr (by omega)), by rw [am_st_o (by omega)]; exact u2, fun a z2 z3 => by
      rw [am_st_at]
      by_cases e : a = j
      · rw [if_pos ⟨rfl, e⟩, e]
      · rw [if_neg (fun z => e z.2)]
        exact u3 a z2 (by omega)⟩
    rw [rsN_s z0, ← q2, q3, ← q1] at this
    exact this
set_option maxHeartbeats 8000000 in
theorem C_X13_starts {m n k : Int} (hC : TwI L h o s g) (hI : SgI g b q) (hm : rg32 m) (hn : rg32 n) (hk : rg32 k) (kk : ∀ h', FrW h h' o → Q (.inl [aI (startsV g m n k)]) L h') : am_C G mX13_starts (d + 12) [aR o, aI m, aI n, aI k] L h Q := by
  have hT := hI.1
  have hM0 := hC.1.1
  have hL := hM0.1
  have hs := hM0.2.1
  have hlv := hM0.2.2.1
  have hmen := hM0.2.2.2.1
  have hM := hT.1
  have hkk := hI.2.2.2.2.2.1
  obtain ⟨d1, -⟩ := hC.2.2.2.1
  refine x_start okX13_starts rfl rfl rfl rfl ?_
  refine x_iload_1 dX13_starts_0 ?_
  refine x_iconst dX13_starts_1 ?_
  refine x_iconst dX13_starts_2 ?_
  refine x_callS3 dX13_starts_3 rfl okX13_in q1931 q1932 rfl (C_X13_in hm ⟨by decide, by decide⟩ ⟨by decide, by decide⟩ (x_k1 ?_))
  refine x_if_eq (tgt := 31) dX13_starts_6 rfl (by split <;> omega) (fun c6 => ?_) (fun c6 => ?_)
  · skip
    refine x_iconst dX13_starts_31 ?_
    refine x_iret dX13_starts_32 rfl ?_
    refine x_q1 ?_ (kk h (FrW.rf h o))
    unfold startsV
    rw [if_neg (fun z => by obtain ⟨z1, z2, z3⟩ := z; first | (rw [if_pos z1] at c6; omega) | (rw [if_pos z2] at c16; omega) | (rw [if_pos z3] at c28; omega))]
  · refine x_iload_2 dX13_starts_9 ?_
    refine x_iconst dX13_starts_10 ?_
    refine x_bipush dX13_starts_11 rfl ?_
    refine x_callS3 dX13_starts_13 rfl okX13_in q1931 q1932 rfl (C_X13_in hn ⟨by decide, by decide⟩ ⟨by decide, by decide⟩ (x_k1 ?_))
    refine x_if_eq (tgt := 31) dX13_starts_16 rfl (by split <;> omega) (fun c16 => ?_) (fun c16 => ?_)
    · skip
      refine x_iconst dX13_starts_31 ?_
      refine x_iret dX13_starts_32 rfl ?_
      refine x_q1 ?_ (kk h (FrW.rf h o))
      unfold startsV
      rw [if_neg (fun z => by obtain ⟨z1, z2, z3⟩ := z; first | (rw [if_pos z1] at c6; omega) | (rw [if_pos z2] at c16; omega) | (rw [if_pos z3] at c28; omega))]
    · refine x_iload_3 dX13_starts_19 ?_
      refine x_iconst dX13_starts_20 ?_
      refine x_aload_0 dX13_starts_21 ?_
      refine x_getI_ dX13_starts_22 fl1643_13 (by first | (exact MdL.k0 (by assumption)) | (assumption)) (fun r22 => ?_)
      rw [d1] at r22 ⊢
      refine x_callS3 dX13_starts_25 rfl okX13_in q1931 q1932 rfl (C_X13_in hk ⟨by decide, by decide⟩ ⟨by omega, by omega⟩ (x_k1 ?_))
      refine x_if_ne (tgt := 33) dX13_starts_28 rfl (by split <;> omega) (fun c28 => ?_) (fun c28 => ?_)
      · refine x_iconst dX13_starts_33 ?_
        refine x_istore4 dX13_starts_34 rfl ?_
        refine x_iconst dX13_starts_36 ?_
        refine x_istore5 dX13_starts_37 rfl ?_
        have hm1 : 0 ≤ m ∧ m ≤ 3 := by split at c6 <;> omega
        have hn1 : 0 ≤ n ∧ n ≤ 40 := by split at c16 <;> omega
        have hk1 : 0 ≤ k ∧ k ≤ gK g := by split at c28 <;> omega
        have eV : startsV g m n k = if 1000 < stA m (tM (gT g)).toNat then -2 else sumI (stA m (tM (gT g)).toNat) (soI g m n k) := by
          unfold startsV
          rw [if_pos ⟨hm1, hn1, hk1⟩]
        have bA : ∀ i : Nat, (i : Int) ≤ 7 → 1 ≤ stA m i ∧ stA m i ≤ 16384 := fun i z => by
          have := stA_bd hm1 i
          have h2 : 4 ^ i ≤ 4 ^ 7 := Nat.pow_le_pow_right (by decide) (by omega)
          omega
        refine x_up0 (tM (gT g)) (fun i => 0 ≤ i → i ≤ tM (gT g) → am_X G mX13_starts (d + 12) 39 [aR o, aI m, aI n, aI k, aI (stA m i.toNat), aI i, aU] [] L h Q) (fun i ih g0 g1 => ?_) 0 (by omega) hM.1
        have bi := bA i.toNat (by omega)
        refine x_iload5 dX13_starts_39 ?_
        refine x_aload_0 dX13_starts_41 ?_
        refine x_getR dX13_starts_42 fl1598_13 rfl (by first | (exact MdL.k0 (by assumption)) | (assumption)) (by first | (exact MdL.v_men (by assumption)) | (assumption)) ?_
        refine x_aload_0 dX13_starts_45 ?_
        refine x_getI_ dX13_starts_46 fl1592_13 (by first | (exact MdL.k0 (by assumption)) | (assumption)) (fun r46 => ?_)
        rw [hlv] at r46 ⊢
        refine x_iald_ dX13_starts_49 (by first | (exact MdL.k_men (by assumption)) | (assumption)) (by first | (exact MdL.x_men (by assumption) (by omega) (by omega)) | (omega)) (fun r49 => ?_)
        rw [hmen] at r49 ⊢
        refine x_icmp_ge (tgt := 67) dX13_starts_50 rfl (by omega) (by omega) (fun c50 => ?_) (fun c50 => ?_)
        · refine x_iload4 dX13_starts_67 ?_
          refine x_sipush dX13_starts_69 rfl ?_
          refine x_icmp_le (tgt := 78) dX13_starts_72 rfl (by omega) (by omega) (fun c72 => ?_) (fun c72 => ?_)
          · refine x_iconst dX13_starts_78 ?_
            refine x_istore5 dX13_starts_79 rfl ?_
            refine x_iconst dX13_starts_81 ?_
            refine x_istore6 dX13_starts_82 rfl ?_
            rw [show i = tM (gT g) by omega] at c72 bi ⊢
            rw [if_neg (by omega)] at eV
            clear ih
            generalize stA m (tM (gT g)).toNat = A at c72 eV bi ⊢
            refine x_for A (fun i hh => FrW h hh o) (fun i hh => am_X G mX13_starts (d + 12) 84 [aR o, aI m, aI n, aI k, aI A, aI (sumI i (soI g m n k)), aI i] [] L hh Q) (fun i hh y0 y1 hP ih => ?_) h (by omega) (FrW.rf h o)
            have bs : 0 ≤ soI g m n k i ∧ soI g m n k i ≤ 1 := by unfold soI; split <;> omega
            refine x_iload6 dX13_starts_84 ?_
            refine x_iload4 dX13_starts_86 ?_
            refine x_icmp_ge (tgt := 112) dX13_starts_88 rfl (by omega) (by omega) (fun c88 => ?_) (fun c88 => ?_)
            · refine x_iload5 dX13_starts_112 ?_
              refine x_iret dX13_starts_114 rfl ?_
              refine x_q1 ?_ (kk hh hP)
              rw [eV, show i = A by omega]
            · refine x_aload_0 dX13_starts_91 ?_
              refine x_iload6 dX13_starts_92 ?_
              refine x_iload_1 dX13_starts_94 ?_
              refine x_iload_2 dX13_starts_95 ?_
              refine x_iload_3 dX13_starts_96 ?_
              refine x_callV4 dX13_starts_97 rfl okX13_isSo q2221 q2223 qs112 (by first | assumption | (exact MdL.k0 (by assumption))) am_k13 rfl (C_X13_isSo (hC.mv hT hP) hI ⟨by omega, by omega⟩ hm1 hn1 hk1 (fun h3 f3 => (x_k1 ?_)))
              refine x_if_eq (tgt := 106) dX13_starts_100 rfl (by omega) (fun c100 => ?_) (fun c100 => ?_)
              · refine x_iinc6 dX13_starts_106 rfl ?_
                refine x_goto (tgt := 84) dX13_starts_109 rfl ?_
                have := ih h3 (by omega) (hP.tr f3)
                rw [sumI_s _ y0] at this
                first
                | (rw [show soI g m n k i = 1 by omega] at this; exact this)
                | (rw [show soI g m n k i = 0 by omega, Int.add_zero] at this; exact this)
              · refine x_iinc5 dX13_starts_103 rfl ?_
                refine x_iinc6 dX13_starts_106 rfl ?_
                refine x_goto (tgt := 84) dX13_starts_109 rfl ?_
                have := ih h3 (by omega) (hP.tr f3)
                rw [sumI_s _ y0] at this
                first
                | (rw [show soI g m n k i = 1 by omega] at this; exact this)
                | (rw [show soI g m n k i = 0 by omega, Int.add_zero] at this; exact this)
          · refine x_bipush dX13_starts_75 rfl ?_
            refine x_iret dX13_starts_77 rfl ?_
            rw [show i = tM (gT g) by omega] at c72
            refine x_q1 ?_ (kk h (FrW.rf h o))
            rw [eV, if_pos (by omega)]
        · refine x_iload4 dX13_starts_53 ?_
          refine x_iload_1 dX13_starts_55 ?_
          refine x_iconst dX13_starts_56 ?_
          refine x_iadd dX13_starts_57 ?_
          refine x_imul dX13_starts_58 ?_
          refine x_istore4 dX13_starts_59 rfl ?_
          refine x_iinc5 dX13_starts_61 rfl ?_
          refine x_goto (tgt := 39) dX13_starts_64 rfl ?_
          have := ih (by omega) (by omega) (by omega)
          rw [stA_s g0] at this
          exact this
      · skip
        refine x_iconst dX13_starts_31 ?_
        refine x_iret dX13_starts_32 rfl ?_
        refine x_q1 ?_ (kk h (FrW.rf h o))
        unfold startsV
        rw [if_neg (fun z => by obtain ⟨z1, z2, z3⟩ := z; first | (rw [if_pos z1] at c6; omega) | (rw [if_pos z2] at c16; omega) | (rw [if_pos z3] at c28; omega))]
end STARTC
