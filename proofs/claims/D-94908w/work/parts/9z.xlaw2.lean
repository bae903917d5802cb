/-! THREADTOWN READS: a law -/
set_option maxRecDepth 100000
section XLAW2
variable {G : am_G} {L L' L0 : am_L} {h h' h0 : am_H} {x D N a a0 c l i : Int} {b : Int → Int} {d : Nat} {Q : am_O → am_L → am_H → Prop} {tl tt te : Int → Tau}
theorem pM_ok {K : Int → Int} {k a : Int} (h1 : K a = k) (h2 : a < 400) : pM K k a = .inl (a + 1) := by
  unfold pM
  rw [if_neg (fun z => z h1), if_neg (by omega)]
theorem pM_1 {K : Int → Int} {k a : Int} (h1 : K a ≠ k) : pM K k a = .inr (1, a) := if_pos h1
theorem pM_2 {K : Int → Int} {k a : Int} (h1 : K a = k) (h2 : 400 ≤ a) : pM K k a = .inr (2, a) := by
  unfold pM
  rw [if_neg (fun z => z h1), if_pos h2]
theorem pP_ok {a : Int} (h2 : a < 400) : pP a = .inl (a + 1) := if_neg (by omega)
theorem pP_2 {a : Int} (h2 : 400 ≤ a) : pP a = .inr (2, a) := if_pos h2
theorem RdX.pf {b9 j v : Int} (r : RdX L h x b D N) (hb : x + 1205 ≤ b9) : RdX (am_pf L b9 j v) h x b D N := ⟨r.1.lb ((LB.rf L (x + 1205)).pf hb) (Int.le_refl _), r.2⟩
theorem XG.pfl {b9 j v : Int} (r : XG L h L' h' x c) (hb : nx L ≤ b9) : XG L h (am_pf L' b9 j v) h' x c := ⟨r.1.pf hb, by rw [nx_pf]; exact r.2.1, by rw [us_pf]; exact r.2.2.1, r.2.2.2⟩
set_option maxHeartbeats 4000000 in
theorem xlaw_end {n : Int} (hR : RdX L h x b D N) (hat : h (x + 9) 3 = a) (hop : h (x + 9) 4 = 0) (ha : inN N a) (hX : LwX L l n n n n tl tt te) (hn : 0 ≤ n ∧ n ≤ 4) (hl0 : nx L0 ≤ l) (hl2 : 200 ≤ l ∧ l + 4 ≤ nx L) (hg : XG L0 h0 L h x (a - a0)) (haa : a0 ≤ a)
    (kS : ∀ t a' L' h', pS (sK b D) (sV b D) a = .inl (t, a') → a < a' → inN N a' → XG L0 h0 L' h' x (a' - a0) → LawAt L' l (lamOf n tl tt (upT te n t)) → h' (x + 9) 3 = a' → (∀ j, j ≠ 3 → h' (x + 9) j = h (x + 9) j) → Q (.inl [aR l]) L' h')
    (kF : ∀ n tk L' h', pS (sK b D) (sV b D) a = .inr (n, tk) → XG L0 h0 L' h' x (401 - a0) → (0 ≤ tk ∧ tk ≤ N) → h' (x + 1) 6 = n → h' (x + 1) 7 = sP b D tk → Q (.inr (x + 1)) L' h') : am_X G mX3_law (d + 27) 102 [aR (x + 9), aR l] [] L h Q := by
  refine am_wf fun wf => ?_
  have hK := hR.mk
  have ha0 := ha.1
  have ha4 := ha.2
  obtain ⟨r1, ⟨r2, r3, r4, r5⟩, r6, r8, s1, -⟩ := id hX
  refine x_aload_1 dX3_law_102 ?_
  refine x_getR dX3_law_103 fl1096_15 rfl (by first | assumption | (simp only [kd_pf, true_and, and_true]; first | done | assumption)) (by exact r4) ?_
  refine x_aload_1 dX3_law_106 ?_
  refine x_getKI dX3_law_107 fl1098_15 (by first | assumption | (simp only [kd_pf, true_and, and_true]; first | done | assumption)) (by exact r5) (fun r107 => ?_)
  refine x_aload_0 dX3_law_110 ?_
  refine x_callV0 dX3_law_111 rfl okX3_sum q1120 q1122 qs27 (by first | first | assumption | (simp only [kd_pf, true_and, and_true]; first | done | assumption) | (exact MkL.k_parser (by assumption))) am_k3 rfl (C_X3_sum hR hat hop ha (fun t1 a1 L1 h1 v1 u1 u2 u3 u4 u5 u6 u7 => (x_k1 ?_)) (fun n9 tk L9 h9 z1 z2 z3 z4 z5 => x_kx ⟨(hR.up z2).mk.k_fault, kF n9 tk L9 h9 z1 ((hg.tr z2 (Int.le_refl _)).le (by omega)) z3 z4 z5⟩))
  have hX1 := hX.up (hwL.of wf) u4.1
  refine x_aastS dX3_law_114 hX1.2.2.2.2.1.1 (by omega) (by rw [hX1.2.2.2.2.1.2]; omega) u5 ?_
  refine x_aload_1 dX3_law_115 ?_
  refine x_aret dX3_law_116 rfl ?_
  exact kS t1 a1 _ h1 u1 u2 u3 (((hg.tr u4 (Int.le_refl _)).pfl (by omega)).le (by omega)) ((hX1.p3 (SumF.dn (by omega) _ u5)).at hn) u6 u7
set_option maxHeartbeats 4000000 in
theorem xlaw_loop : ∀ (r : Nat) {L : am_L} {h : am_H} {a n : Int} {tl tt te : Int → Tau}, RdX L h x b D N → h (x + 9) 3 = a → h (x + 9) 4 = 0 → inN N a → LwX L l n n n n tl tt te → n = 4 - r → 0 ≤ n → nx L0 ≤ l → (x + 1205 ≤ l ∧ 200 ≤ l ∧ l + 4 ≤ nx L) → XG L0 h0 L h x (a - a0) → a0 ≤ a →
    (∀ la a' L' h', pIfs (sK b D) (sV b D) r a n tl tt te = .inl (la, a') → a < a' → inN N a' → XG L0 h0 L' h' x (a' - a0) → LawAt L' l la → h' (x + 9) 3 = a' → (∀ j, j ≠ 3 → h' (x + 9) j = h (x + 9) j) → Q (.inl [aR l]) L' h') →
    (∀ n9 tk L' h', pIfs (sK b D) (sV b D) r a n tl tt te = .inr (n9, tk) → XG L0 h0 L' h' x (401 - a0) → (0 ≤ tk ∧ tk ≤ N) → h' (x + 1) 6 = n9 → h' (x + 1) 7 = sP b D tk → Q (.inr (x + 1)) L' h') → am_X G mX3_law (d + 27) 14 [aR (x + 9), aR l] [] L h Q := by
  intro r
  induction r with
  | zero =>
    intro L h a n tl tt te hR hat hop ha hX hn hn0 hl0 hl2 hg haa kS kF
    have hK := hR.mk
    have ha0 := ha.1
    have ha4 := ha.2
    obtain ⟨r1, ⟨r2, r3, r4, r5⟩, r6, r8, s1, -⟩ := id hX
    by_cases q : sK b D a = 28
    · have hp : pIfs (sK b D) (sV b D) 0 a n tl tt te = .inr (2, a) := by rw [pIfs, if_pos q]
      refine x_aload_0 dX3_law_14 ?_
      refine x_bipush dX3_law_15 rfl ?_
      refine x_callV1 dX3_law_17 rfl okX3_isWord q1116 q1118 qs26 (by first | first | assumption | (simp only [kd_pf, true_and, and_true]; first | done | assumption) | (exact MkL.k_parser (by assumption))) am_k3 rfl (C_X3_isWord hR hat ha (by decide) (x_k1 ?_))
      rw [if_pos (by omega)]
      refine x_if_eq (tgt := 102) dX3_law_20 rfl (by omega) (fun c20 => ?_) (fun c20 => ?_)
      · exact absurd c20 (by decide)
      · refine x_aload_0 dX3_law_23 ?_
        refine x_aload_1 dX3_law_24 ?_
        refine x_getKI dX3_law_25 fl1098_15 (by first | assumption | (simp only [kd_pf, true_and, and_true]; first | done | assumption)) (by exact r5) (fun r25 => ?_)
        refine x_iconst dX3_law_28 ?_
        refine x_callV2 dX3_law_29 rfl okX3_begins q785 q787 qs17 (by first | first | assumption | (simp only [kd_pf, true_and, and_true]; first | done | assumption) | (exact MkL.k_parser (by assumption))) am_k3 rfl (C_X3_begins (d := d + 21) hR hat ha ⟨by omega, by omega⟩ ⟨by decide, by decide⟩ (fun z => x_kx ⟨hK.k_fault, kF _ _ _ _ hp (hg.flt.le (by omega)) ha.1 fltH_6 fltH_7⟩) (fun z => by exfalso; omega) (fun z => by exfalso; omega))
        skip
    · have hp : pIfs (sK b D) (sV b D) 0 a n tl tt te = rb (pS (sK b D) (sV b D) a) fun q => .inl (lamOf n tl tt (upT te n q.1), q.2) := by rw [pIfs, if_neg q]
      refine x_aload_0 dX3_law_14 ?_
      refine x_bipush dX3_law_15 rfl ?_
      refine x_callV1 dX3_law_17 rfl okX3_isWord q1116 q1118 qs26 (by first | first | assumption | (simp only [kd_pf, true_and, and_true]; first | done | assumption) | (exact MkL.k_parser (by assumption))) am_k3 rfl (C_X3_isWord hR hat ha (by decide) (x_k1 ?_))
      rw [if_neg (by omega)]
      refine x_if_eq (tgt := 102) dX3_law_20 rfl (by omega) (fun c20 => ?_) (fun c20 => ?_)
      · exact xlaw_end hR hat hop ha hX ⟨hn0, by omega⟩ hl0 hl2.2 hg haa (fun t a' L' h' z1 z2 z3 z4 z5 z6 z7 => kS _ a' L' h' (by rw [hp, z1, rb_l]) z2 z3 z4 z5 z6 z7) (fun n9 tk L' h' z1 z2 z3 z4 z5 => kF n9 tk L' h' (by rw [hp, z1, rb_r]) z2 z3 z4 z5)
      · exact absurd rfl c20
  | succ r ih =>
    intro L h a n tl tt te hR hat hop ha hX hn hn0 hl0 hl2 hg haa kS kF
    have hK := hR.mk
    have ha0 := ha.1
    have ha4 := ha.2
    obtain ⟨r1, ⟨r2, r3, r4, r5⟩, r6, r8, s1, -⟩ := id hX
    by_cases q : sK b D a = 28
    · have hp : pIfs (sK b D) (sV b D) (r + 1) a n tl tt te = rb (pP a) fun a1 => rb (pS (sK b D) (sV b D) a1) fun q1 => rb (pM (sK b D) 13 q1.2) fun a2 => rb (pS (sK b D) (sV b D) a2) fun q2 => rb (pM (sK b D) 29 q2.2) fun a3 => rb (pS (sK b D) (sV b D) a3) fun q3 => rb (pM (sK b D) 30 q3.2) fun a4 =>
          pIfs (sK b D) (sV b D) r a4 (n + 1) (upT tl n q1.1) (upT tt n q2.1) (upT te n q3.1) := by rw [pIfs, if_pos q]
      by_cases q4 : 400 ≤ a
      · rw [pP_2 q4, rb_r] at hp
        refine x_aload_0 dX3_law_14 ?_
        refine x_bipush dX3_law_15 rfl ?_
        refine x_callV1 dX3_law_17 rfl okX3_isWord q1116 q1118 qs26 (by first | first | assumption | (simp only [kd_pf, true_and, and_true]; first | done | assumption) | (exact MkL.k_parser (by assumption))) am_k3 rfl (C_X3_isWord hR hat ha (by decide) (x_k1 ?_))
        rw [if_pos (by omega)]
        refine x_if_eq (tgt := 102) dX3_law_20 rfl (by omega) (fun c20 => ?_) (fun c20 => ?_)
        · exact absurd c20 (by decide)
        · refine x_aload_0 dX3_law_23 ?_
          refine x_aload_1 dX3_law_24 ?_
          refine x_getKI dX3_law_25 fl1098_15 (by first | assumption | (simp only [kd_pf, true_and, and_true]; first | done | assumption)) (by exact r5) (fun r25 => ?_)
          refine x_iconst dX3_law_28 ?_
          refine x_callV2 dX3_law_29 rfl okX3_begins q785 q787 qs17 (by first | first | assumption | (simp only [kd_pf, true_and, and_true]; first | done | assumption) | (exact MkL.k_parser (by assumption))) am_k3 rfl (C_X3_begins (d := d + 21) hR hat ha ⟨by omega, by omega⟩ ⟨by decide, by decide⟩ (fun z => by exfalso; omega) (fun z z2 => by exfalso; omega) (fun z z2 => x_kx ⟨hK.k_fault, kF _ _ _ _ hp (hg.flt.le (by omega)) ha.1 fltH_6 fltH_7⟩))
          skip
      · rw [pP_ok (by omega), rb_l] at hp
        have han := hR.nx ha (by omega) (by omega) (by omega)
        have hR1 : RdX L (am_st h (x + 9) 3 (a + 1)) x b D N := hR.st9
        have hg1 : XG L0 h0 L (am_st h (x + 9) 3 (a + 1)) x (a + 1 - a0) := hg.st9.le (by omega)
        refine x_aload_0 dX3_law_14 ?_
        refine x_bipush dX3_law_15 rfl ?_
        refine x_callV1 dX3_law_17 rfl okX3_isWord q1116 q1118 qs26 (by first | first | assumption | (simp only [kd_pf, true_and, and_true]; first | done | assumption) | (exact MkL.k_parser (by assumption))) am_k3 rfl (C_X3_isWord hR hat ha (by decide) (x_k1 ?_))
        rw [if_pos (by omega)]
        refine x_if_eq (tgt := 102) dX3_law_20 rfl (by omega) (fun c20 => ?_) (fun c20 => ?_)
        · exact absurd c20 (by decide)
        · refine x_aload_0 dX3_law_23 ?_
          refine x_aload_1 dX3_law_24 ?_
          refine x_getKI dX3_law_25 fl1098_15 (by first | assumption | (simp only [kd_pf, true_and, and_true]; first | done | assumption)) (by exact r5) (fun r25 => ?_)
          refine x_iconst dX3_law_28 ?_
          refine x_callV2 dX3_law_29 rfl okX3_begins q785 q787 qs17 (by first | first | assumption | (simp only [kd_pf, true_and, and_true]; first | done | assumption) | (exact MkL.k_parser (by assumption))) am_k3 rfl (C_X3_begins (d := d + 21) hR hat ha ⟨by omega, by omega⟩ ⟨by decide, by decide⟩ (fun z => by exfalso; omega) (fun z z2 => (x_k0 ?_)) (fun z z2 => by exfalso; omega))
          refine am_wf fun wf1 => ?_
          refine x_aload_1 dX3_law_32 ?_
          refine x_getR dX3_law_33 fl1092_15 rfl (by first | assumption | (simp only [kd_pf, true_and, and_true]; first | done | assumption)) (by exact r2) ?_
          refine x_aload_1 dX3_law_36 ?_
          refine x_getKI dX3_law_37 fl1098_15 (by first | assumption | (simp only [kd_pf, true_and, and_true]; first | done | assumption)) (by exact r5) (fun r37 => ?_)
          refine x_aload_0 dX3_law_40 ?_
          refine x_callV0 dX3_law_41 rfl okX3_sum q1120 q1122 qs27 (by first | first | assumption | (simp only [kd_pf, true_and, and_true]; first | done | assumption) | (exact MkL.k_parser (by assumption))) am_k3 rfl (C_X3_sum hR1 am_st_s (by rw [am_st_i (by decide)]; exact hop) han (fun t1 a1 L1 h1 v1 u1 u2 u3 u4 u5 u6 u7 => (x_k1 ?_)) (fun n9 tk L9 h9 z1 z2 z3 z4 z5 => x_kx ⟨(hR1.up z2).mk.k_fault, kF n9 tk L9 h9 (by rw [hp, z1, rb_r]) ((hg1.tr z2 (Int.le_refl _)).le (by omega)) z3 z4 z5⟩))
          have hX1 := hX.up (hwL.of wf1) u4.1
          have hn1 := u4.2.1.1
          have hg2 : XG L0 h0 (am_pf L1 (l + 1) n v1) h1 x (a1 - a0) := ((hg1.tr u4 (Int.le_refl _)).pfl (by omega)).le (by omega)
          have hR2 : RdX (am_pf L1 (l + 1) n v1) h1 x b D N := (hR1.up u4).pf (by omega)
          have hX2 := hX1.p1 (SumF.dn (by omega) _ u5)
          have hK2 := hR2.mk
          have hop2 : h1 (x + 9) 4 = 0 := by rw [u7 4 (by decide), am_st_i (by decide)]; exact hop
          have hk60 : kdS 60 = 13 := by decide
          rw [u1, rb_l] at hp
          refine x_aastS dX3_law_44 hX1.2.2.1.1 (by omega) (by rw [hX1.2.2.1.2]; omega) u5 ?_
          refine x_aload_0 dX3_law_45 ?_
          refine x_bipush dX3_law_46 rfl ?_
          refine x_callV1 dX3_law_48 rfl okX3_sign q1108 q1110 qs24 (by first | first | assumption | (simp only [kd_pf, true_and, and_true]; first | done | assumption) | (exact MkL.k_parser (by assumption))) am_k3 rfl (C_X3_sign (d := d + 21) hR2 u6 u3 (by decide) (by decide) (fun y1 y2 => (x_k0 ?_)) (fun y1 => x_kx ⟨hK2.k_fault, kF _ _ _ _ (by rw [hp, pM_1 (by rw [hk60] at y1; exact y1), rb_r]) (hg2.flt.le (by have := u3.2; omega)) u3.1 fltH_6 fltH_7⟩) (fun y1 y2 => x_kx ⟨hK2.k_fault, kF _ _ _ _ (by rw [hp, pM_2 (by rw [hk60] at y1; exact y1) y2, rb_r]) (hg2.flt.le (by have := u3.2; omega)) u3.1 fltH_6 fltH_7⟩))
          refine am_wf fun wf2 => ?_
          rw [hk60] at y1
          rw [pM_ok y1 y2, rb_l] at hp
          have hR3 : RdX (am_pf L1 (l + 1) n v1) (am_st h1 (x + 9) 3 (a1 + 1)) x b D N := hR2.st9
          have hg3 : XG L0 h0 (am_pf L1 (l + 1) n v1) (am_st h1 (x + 9) 3 (a1 + 1)) x (a1 + 1 - a0) := hg2.st9.le (by omega)
          have han1 := hR2.nx u3 (by omega) (by omega) y2
          refine x_aload_1 dX3_law_51 ?_
          refine x_getR dX3_law_52 fl1094_15 rfl (by exact hX2.1) (by exact hX2.2.1.2.1) ?_
          refine x_aload_1 dX3_law_55 ?_
          refine x_getKI dX3_law_56 fl1098_15 (by exact hX2.1) (by exact hX2.2.1.2.2.2) (fun r56 => ?_)
          refine x_aload_0 dX3_law_59 ?_
          refine x_callV0 dX3_law_60 rfl okX3_sum q1120 q1122 qs27 (by first | first | assumption | (simp only [kd_pf, true_and, and_true]; first | done | assumption) | (exact MkL.k_parser (by assumption))) am_k3 rfl (C_X3_sum hR3 am_st_s (by rw [am_st_i (by decide)]; exact hop2) han1 (fun t2 a2 L2 h2 v2 w1 w2 w3 w4 w5 w6 w7 => (x_k1 ?_)) (fun n9 tk L9 h9 z1 z2 z3 z4 z5 => x_kx ⟨(hR3.up z2).mk.k_fault, kF n9 tk L9 h9 (by rw [hp, z1, rb_r]) ((hg3.tr z2 (Int.le_refl _)).le (by omega)) z3 z4 z5⟩))
          have hX3 := hX2.up (hwL.of wf2) w4.1
          have hn2 := w4.2.1.1
          rw [nx_pf] at hn2
          have hg4 : XG L0 h0 (am_pf L2 (l + 2) n v2) h2 x (a2 - a0) := ((hg3.tr w4 (Int.le_refl _)).pfl (by omega)).le (by omega)
          have hR4 : RdX (am_pf L2 (l + 2) n v2) h2 x b D N := (hR3.up w4).pf (by omega)
          have hX4 := hX3.p2 (SumF.dn (by rw [nx_pf]; omega) _ w5)
          have hK4 := hR4.mk
          have hop4 : h2 (x + 9) 4 = 0 := by rw [w7 4 (by decide), am_st_i (by decide)]; exact hop2
          rw [w1, rb_l] at hp
          refine x_aastS dX3_law_63 hX3.2.2.2.1.1 (by omega) (by rw [hX3.2.2.2.1.2]; omega) w5 ?_
          refine x_aload_0 dX3_law_64 ?_
          refine x_bipush dX3_law_65 rfl ?_
          refine x_callV1 dX3_law_67 rfl okX3_word q1171 q1173 qs30 (by first | first | assumption | (simp only [kd_pf, true_and, and_true]; first | done | assumption) | (exact MkL.k_parser (by assumption))) am_k3 rfl (C_X3_word (d := d + 21) hR4 w6 w3 (by decide) (fun y3 y4 => (x_k0 ?_)) (fun y3 => x_kx ⟨hK4.k_fault, kF _ _ _ _ (by rw [hp, pM_1 (show sK b D a2 ≠ 29 from fun z9 => y3 (by omega)), rb_r]) (hg4.flt.le (by have := w3.2; omega)) w3.1 fltH_6 fltH_7⟩) (fun y3 y4 => x_kx ⟨hK4.k_fault, kF _ _ _ _ (by rw [hp, pM_2 (k := 29) (by omega) y4, rb_r]) (hg4.flt.le (by have := w3.2; omega)) w3.1 fltH_6 fltH_7⟩))
          refine am_wf fun wf3 => ?_
          rw [pM_ok (k := 29) (by omega) y4, rb_l] at hp
          have hR5 : RdX (am_pf L2 (l + 2) n v2) (am_st h2 (x + 9) 3 (a2 + 1)) x b D N := hR4.st9
          have hg5 : XG L0 h0 (am_pf L2 (l + 2) n v2) (am_st h2 (x + 9) 3 (a2 + 1)) x (a2 + 1 - a0) := hg4.st9.le (by omega)
          have han2 := hR4.nx w3 (by omega) (by omega) y4
          refine x_aload_1 dX3_law_70 ?_
          refine x_getR dX3_law_71 fl1096_15 rfl (by exact hX4.1) (by exact hX4.2.1.2.2.1) ?_
          refine x_aload_1 dX3_law_74 ?_
          refine x_getKI dX3_law_75 fl1098_15 (by exact hX4.1) (by exact hX4.2.1.2.2.2) (fun r75 => ?_)
          refine x_aload_0 dX3_law_78 ?_
          refine x_callV0 dX3_law_79 rfl okX3_sum q1120 q1122 qs27 (by first | first | assumption | (simp only [kd_pf, true_and, and_true]; first | done | assumption) | (exact MkL.k_parser (by assumption))) am_k3 rfl (C_X3_sum hR5 am_st_s (by rw [am_st_i (by decide)]; exact hop4) han2 (fun t3 a3 L3 h3 v3 x1 x2 x3 x4 x5 x6 x7 => (x_k1 ?_)) (fun n9 tk L9 h9 z1 z2 z3 z4 z5 => x_kx ⟨(hR5.up z2).mk.k_fault, kF n9 tk L9 h9 (by rw [hp, z1, rb_r]) ((hg5.tr z2 (Int.le_refl _)).le (by omega)) z3 z4 z5⟩))
          have hX5 := hX4.up (hwL.of wf3) x4.1
          have hn3 := x4.2.1.1
          rw [nx_pf] at hn3
          have hg6 : XG L0 h0 (am_pf L3 (l + 3) n v3) h3 x (a3 - a0) := ((hg5.tr x4 (Int.le_refl _)).pfl (by omega)).le (by omega)
          have hR6 : RdX (am_pf L3 (l + 3) n v3) h3 x b D N := (hR5.up x4).pf (by omega)
          have hX6 := hX5.p3 (SumF.dn (by rw [nx_pf]; omega) _ x5)
          have hK6 := hR6.mk
          have hop6 : h3 (x + 9) 4 = 0 := by rw [x7 4 (by decide), am_st_i (by decide)]; exact hop4
          rw [x1, rb_l] at hp
          refine x_aastS dX3_law_82 hX5.2.2.2.2.1.1 (by omega) (by rw [hX5.2.2.2.2.1.2]; omega) x5 ?_
          refine x_aload_0 dX3_law_83 ?_
          refine x_bipush dX3_law_84 rfl ?_
          refine x_callV1 dX3_law_86 rfl okX3_word q1171 q1173 qs30 (by first | first | assumption | (simp only [kd_pf, true_and, and_true]; first | done | assumption) | (exact MkL.k_parser (by assumption))) am_k3 rfl (C_X3_word (d := d + 21) hR6 x6 x3 (by decide) (fun y5 y6 => (x_k0 ?_)) (fun y5 => x_kx ⟨hK6.k_fault, kF _ _ _ _ (by rw [hp, pM_1 (show sK b D a3 ≠ 30 from fun z9 => y5 (by omega)), rb_r]) (hg6.flt.le (by have := x3.2; omega)) x3.1 fltH_6 fltH_7⟩) (fun y5 y6 => x_kx ⟨hK6.k_fault, kF _ _ _ _ (by rw [hp, pM_2 (k := 30) (by omega) y6, rb_r]) (hg6.flt.le (by have := x3.2; omega)) x3.1 fltH_6 fltH_7⟩))
          rw [pM_ok (k := 30) (by omega) y6, rb_l] at hp
          refine x_aload_1 dX3_law_89 ?_
          refine x_dup dX3_law_90 rfl ?_
          refine x_getKI dX3_law_91 fl1098_15 (by exact hX6.1) (by exact hX6.2.1.2.2.2) (fun r91 => ?_)
          refine x_iconst dX3_law_94 ?_
          refine x_iadd dX3_law_95 ?_
          refine x_putFI dX3_law_96 fl1098_15 (by exact hX6.1) (by omega) (by omega) ?_
          refine x_goto (tgt := 14) dX3_law_99 rfl ?_
          refine ih (hR6.st9.pf (by omega)) am_st_s (by rw [am_st_i (by decide)]; exact hop6) (hR6.nx x3 (by omega) (by omega) y6) hX6.pi (by omega) (by omega) hl0 ⟨hl2.1, hl2.2.1, by rw [nx_pf, nx_pf]; omega⟩ ((hg6.st9.pfl (by omega)).le (by omega)) (by omega) (fun la a' L' h' z1 z2 z3 z4 z5 z6 z7 => kS la a' L' h' (by rw [hp]; exact z1) (by omega) z3 z4 z5 z6 (fun j zj => ?_)) (fun n9 tk L' h' z1 z2 z3 z4 z5 => kF n9 tk L' h' (by rw [hp]; exact z1) z2 z3 z4 z5)
          rw [z7 j zj, am_st_i zj, x7 j zj, am_st_i zj, w7 j zj, am_st_i zj, u7 j zj, am_st_i zj]
    · have hp : pIfs (sK b D) (sV b D) (r + 1) a n tl tt te = rb (pS (sK b D) (sV b D) a) fun q => .inl (lamOf n tl tt (upT te n q.1), q.2) := by rw [pIfs, if_neg q]
      refine x_aload_0 dX3_law_14 ?_
      refine x_bipush dX3_law_15 rfl ?_
      refine x_callV1 dX3_law_17 rfl okX3_isWord q1116 q1118 qs26 (by first | first | assumption | (simp only [kd_pf, true_and, and_true]; first | done | assumption) | (exact MkL.k_parser (by assumption))) am_k3 rfl (C_X3_isWord hR hat ha (by decide) (x_k1 ?_))
      rw [if_neg (by omega)]
      refine x_if_eq (tgt := 102) dX3_law_20 rfl (by omega) (fun c20 => ?_) (fun c20 => ?_)
      · exact xlaw_end hR hat hop ha hX ⟨hn0, by omega⟩ hl0 hl2.2 hg haa (fun t a' L' h' z1 z2 z3 z4 z5 z6 z7 => kS _ a' L' h' (by rw [hp, z1, rb_l]) z2 z3 z4 z5 z6 z7) (fun n9 tk L' h' z1 z2 z3 z4 z5 => kF n9 tk L' h' (by rw [hp, z1, rb_r]) z2 z3 z4 z5)
      · exact absurd rfl c20
theorem C_X3_law (hR : RdX L h x b D N) (hat : h (x + 9) 3 = a) (hop : h (x + 9) 4 = 0) (ha : inN N a)
    (kS : ∀ la a' L' h' l, pLaw (sK b D) (sV b D) a = .inl (la, a') → a < a' → inN N a' → XG L h L' h' x (a' - a) → LawAt L' l la → h' (x + 9) 3 = a' → (∀ j, j ≠ 3 → h' (x + 9) j = h (x + 9) j) → Q (.inl [aR l]) L' h')
    (kF : ∀ n tk L' h', pLaw (sK b D) (sV b D) a = .inr (n, tk) → XG L h L' h' x (401 - a) → (0 ≤ tk ∧ tk ≤ N) → h' (x + 1) 6 = n → h' (x + 1) 7 = sP b D tk → Q (.inr (x + 1)) L' h') : am_C G mX3_law (d + 27) [aR (x + 9)] L h Q := by
  have ha0 := ha.1
  have ha4 := ha.2
  have hx := hR.2.1
  have hp : pLaw (sK b D) (sV b D) a = rb (pM (sK b D) 5 a) fun a1 => pIfs (sK b D) (sV b D) 4 a1 0 t0T t0T t0T := rfl
  have hk61 : kdS 61 = 5 := by decide
  refine x_start okX3_law rfl rfl rfl rfl ?_
  refine x_new dX3_law_0 am_k15 q1083 q1084 q146 rfl (fun z0 => ?_)
  have hz3 := fun j => (z0 j).2
  refine x_dup dX3_law_3 rfl ?_
  refine x_callIN0 dX3_law_4 rfl okX15_init rfl rfl q1085 q1086 (by rw [kd_al, if_pos rfl]; decide) rfl (C_X15_init (l := nx L) (by rw [kd_al, if_pos rfl]) (by rw [nx_al]) (by omega) hz3 (fun L1 y1 y2 y3 y4 => x_k0 ?_))
  have hg1 : XG L h L1 h x 1 := ⟨((LB.rf L (nx L)).al (Int.le_refl _)).tr y4 (Int.le_refl _), ⟨by omega, by omega⟩, by rw [y3, us_al]; omega, fun _ _ _ _ => rfl⟩
  have hR1 := hR.up hg1
  have hK1 := hR1.mk
  refine x_astore_1 dX3_law_7 rfl ?_
  refine x_aload_0 dX3_law_8 ?_
  refine x_bipush dX3_law_9 rfl ?_
  refine x_callV1 dX3_law_11 rfl okX3_sign q1108 q1110 qs24 (by first | first | assumption | (simp only [kd_pf, true_and, and_true]; first | done | assumption) | (exact MkL.k_parser (by assumption))) am_k3 rfl (C_X3_sign (d := d + 21) hR1 hat ha (by decide) (by decide) (fun e1 e2 => (x_k0 ?_)) (fun e1 => x_kx ⟨hK1.k_fault, kF _ _ _ _ (by rw [hp, pM_1 (by rw [hk61] at e1; exact e1), rb_r]) (hg1.flt.le (by omega)) ha.1 fltH_6 fltH_7⟩) (fun e1 e2 => x_kx ⟨hK1.k_fault, kF _ _ _ _ (by rw [hp, pM_2 (by rw [hk61] at e1; exact e1) e2, rb_r]) (hg1.flt.le (by omega)) ha.1 fltH_6 fltH_7⟩))
  rw [hk61] at e1
  rw [pM_ok e1 e2, rb_l] at hp
  exact xlaw_loop (L0 := L) (h0 := h) (a0 := a) 4 hR1.st9 am_st_s (by rw [am_st_i (by decide)]; exact hop) (hR.nx ha (by omega) (by omega) e2) y1 (by omega) (by omega) (Int.le_refl _) ⟨by omega, by omega, by omega⟩ (hg1.st9.le (by omega)) (by omega) (fun la a' L' h' z1 z2 z3 z4 z5 z6 z7 => kS la a' L' h' (nx L) (by rw [hp]; exact z1) (by omega) z3 z4 z5 z6 (fun j zj => by rw [z7 j zj, am_st_i zj])) (fun n9 tk L' h' z1 z2 z3 z4 z5 => kF n9 tk L' h' (by rw [hp]; exact z1) z2 z3 z4 z5)
end XLAW2
