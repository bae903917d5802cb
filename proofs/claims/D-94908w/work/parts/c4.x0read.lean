/-! THREADTOWN'S read -/
set_option maxRecDepth 100000
section X0READ
variable {G : am_G} {L L' : am_L} {h h' : am_H} {x t t' c n p : Int} {b : Int → Int} {d : Nat} {Q : am_O → am_L → am_H → Prop} {g : Sg} {T : Txt} {S : Row}
def rdOk (g : Sg) (T : Txt) : Sg := ((T, begR T), (0, gH g), fun _ => none, (0, g.2.2.2.1.2), (0, gB g), -1)
def rdNo (g : Sg) (p : Int) : Sg := (g.1, g.2.1, g.2.2.1, g.2.2.2.1, (0, gB g), p)
theorem RC.lb (r : RC L h c T S) (hl : LB L L' n) (hc : c + 31 ≤ n) : RC L' h c T S := ⟨r.1.lb hl hc, r.2⟩
theorem CoI.lb (r : CoI L h x t g) (hw : hwL L n) (hl : LB L L' n) (hc : x + 1205 ≤ n) : CoI L' h x t g := by
  obtain ⟨⟨a1, a2, a3, a4⟩, ⟨b1, b2, b3⟩, c1, d1⟩ := r
  refine ⟨⟨a1.lb hl hc, a2, a3.lb hw hl, a4.lb hl (by omega)⟩, ⟨b1, b2, fun k z0 z1 => (b3 k z0 z1).lb hl (by have := pcA_rg (x := x) (u := h x 6) (n := gN g) (k := k); omega)⟩, fun i z0 z1 => ?_, d1⟩
  rcases c1 i z0 z1 with q | ⟨R, q1, q2, q3⟩
  · exact Or.inl q
  · exact Or.inr ⟨R, q1, q2, q3.lb hl (by omega)⟩
theorem CoI.rd (r : CoI L h x t g) (e3 : h' x 3 = h x 3) (e5 : h' x 5 = h x 5) (e6 : h' x 6 = h x 6) (e20 : h' x 20 = h x 20) (e4 : h' x 4 = p) (ed : h' (x + 2) 2 = 0) (ea : ∀ a, x + 17 ≤ a → a < x + 1205 → h' a = h a) : CoI L h' x t (rdNo g p) := by
  obtain ⟨⟨a1, a2, a3, a4⟩, ⟨b1, b2, b3⟩, c1, ⟨d1, d2⟩, -, -⟩ := r
  refine ⟨⟨a1, e3.trans a2, a3, a4.fr fun a z0 z1 => ea a (by omega) (by omega)⟩, ⟨e5.trans b1, by rw [e6]; exact b2, fun k z0 z1 => ?_⟩, fun i z0 z1 => ?_, ⟨e20.trans d1, fun i z0 z1 => ?_⟩, ⟨ed, fun i z0 z1 => ?_⟩, e4⟩
  · rw [e6]
    have := pcA_rg (x := x) (u := h x 6) (n := gN (rdNo g p)) (k := k)
    exact (b3 k z0 z1).fr fun a z0 z1 => ea a (by have : pcA x (h x 6) (gN g) k = pcA x (h x 6) (gN (rdNo g p)) k := rfl; omega) (by have : pcA x (h x 6) (gN g) k = pcA x (h x 6) (gN (rdNo g p)) k := rfl; omega)
  · rw [ea (x + 180) (by omega) (by omega)]
    rcases c1 i z0 z1 with q | ⟨R, q1, q2, q3⟩
    · exact Or.inl q
    · exact Or.inr ⟨R, q1, q2, q3.fr fun a z0 z1 => ea a (by omega) (by omega)⟩
  · rw [ea (x + 271) (by omega) (by omega), ea (x + 272) (by omega) (by omega), ea (x + 274) (by omega) (by omega)]
    exact d2 i z0 z1
  · have : i < 0 := z1
    omega
/-- what ThreadTown's read may change -/
def RdF (L : am_L) (h : am_H) (L' : am_L) (h' : am_H) (x : Int) : Prop := LB L L' (nx L) ∧ (nx L ≤ nx L' ∧ nx L' ≤ nx L + 4100) ∧ us L' ≤ us L + 50000 ∧ ∀ a, (a < x ∨ (x + 1205 ≤ a ∧ a < nx L)) → h' a = h a
theorem C_X0_read (r : CoI L h x t g) (hx : 200 ≤ x ∧ x + 1205 ≤ nx L) (hW : WdL L x) (hD : 0 ≤ gD g ∧ gD g ≤ 2000) (hB : ∀ i, 0 ≤ i → i < gD g → -128 ≤ gB g i ∧ gB g i ≤ 127) (h1l : kd L 1 = 116 ∧ ln L 1 = 0)
    (kS : ∀ T L' h' t', pRead (sK (gB g) (gD g)) (sV (gB g) (gD g)) (sJ (gB g) (gD g)) = .inl T → CoI L' h' x t' (rdOk g T) → RdF L h L' h' x → Q (.inl [aI 0]) L' h')
    (kF : ∀ n tk L' h', pRead (sK (gB g) (gD g)) (sV (gB g) (gD g)) (sJ (gB g) (gD g)) = .inr (n, tk) → CoI L' h' x t (rdNo g (sP (gB g) (gD g) tk)) → RdF L h L' h' x → Q (.inl [aI n]) L' h') : am_C G mX0_read (d + 424) [aR x] L h Q := by
  have hK := r.1.1
  have hr0 := r
  obtain ⟨⟨a1, a2, a3, a4⟩, ⟨b1, b2, b3⟩, c1, ⟨d1, d2⟩, ⟨f1, f2⟩, f3⟩ := hr0
  refine x_startH okX0_readH rfl rfl rfl rfl ?_
  refine am_wf fun wf => ?_
  have hw := hwL.of wf
  have hTp : TpL (am_st h x 4 (-1)) x (gD g) (gB g) := ⟨by rw [am_st_o (by omega)]; exact f1, hD, fun i z0 z1 => by rw [am_st_o (by omega)]; exact f2 i z0 z1, hB⟩
  have hF : ∀ n tk L' h', pRead (sK (gB g) (gD g)) (sV (gB g) (gD g)) (sJ (gB g) (gD g)) = .inr (n, tk) → RdG L (am_st h x 4 (-1)) L' h' x → FX1 h' x (gB g) (gD g) n tk → am_X G mX0_read (d + 424) 62 [aR x, aI 0, aU] [aR (x + 1)] L' h' Q := by
    intro n tk L' h' y1 y2 y3
    obtain ⟨g1, g2, g3, g4, g5⟩ := y2
    have hK' : MkL L' x := hK.lb g1 hx.2
    have hr1 : CoI L' h x t g := r.lb hw g1 hx.2
    have hkf := hK'.k_fault
    refine x_astore_2 dX0_read_62 rfl ?_
    refine x_aload_2 dX0_read_63 ?_
    refine x_getI_ dX0_read_64 fl213_1 (by exact hkf) (fun r64 => ?_)
    rw [y3.1]
    refine x_istore_1 dX0_read_67 rfl ?_
    refine x_aload_0 dX0_read_68 ?_
    refine x_aload_2 dX0_read_69 ?_
    refine x_getI_ dX0_read_70 fl215_1 (by exact hkf) (fun r70 => ?_)
    rw [y3.2]
    rw [y3.2] at r70
    refine x_putI_ dX0_read_73 fl575_0 (by first | (exact MkL.k0 (by assumption)) | (assumption)) (by omega) ?_
    refine x_aload_0 dX0_read_76 ?_
    refine x_getR dX0_read_77 fl572_0 rfl (by first | (exact MkL.k0 (by assumption)) | (assumption)) (by first | (exact MkL.v_tokens (by assumption)) | (assumption)) ?_
    refine x_iconst dX0_read_80 ?_
    refine x_putI_ dX0_read_81 fl263_2 (by first | (exact MkL.k_tokens (by assumption)) | (assumption)) (by omega) ?_
    refine x_iload_1 dX0_read_84 ?_
    refine x_iret dX0_read_85 rfl ?_
    exact kF n tk L' _ y1 (hr1.rd (by simp (disch := omega) only [am_st_o, am_st_i, am_st_s]; rw [g4 x (by omega) (by omega) (by omega) (by omega) (by omega) (by omega) (by omega) (by omega)]; exact am_st_i (by decide)) (by simp (disch := omega) only [am_st_o, am_st_i, am_st_s]; rw [g4 x (by omega) (by omega) (by omega) (by omega) (by omega) (by omega) (by omega) (by omega)]; exact am_st_i (by decide)) (by simp (disch := omega) only [am_st_o, am_st_i, am_st_s]; rw [g4 x (by omega) (by omega) (by omega) (by omega) (by omega) (by omega) (by omega) (by omega)]; exact am_st_i (by decide)) (by simp (disch := omega) only [am_st_o, am_st_i, am_st_s]; rw [g4 x (by omega) (by omega) (by omega) (by omega) (by omega) (by omega) (by omega) (by omega)]; exact am_st_i (by decide)) (by rw [am_st_o (by omega), am_st_s]) am_st_s (fun a z0 z1 => by rw [am_st_o (by omega), am_st_o (by omega), g4 a (by omega) (by omega) (by omega) (by omega) (by omega) (by omega) (by omega) (by omega), am_st_o (by omega)])) ⟨g1, g2, g3, fun a z => by rw [am_st_o (by omega), am_st_o (by omega), g4 a (by omega) (by omega) (by omega) (by omega) (by omega) (by omega) (by omega) (by omega), am_st_o (by omega)]⟩
  have hmain : ∀ T L' h' t', pRead (sK (gB g) (gD g)) (sV (gB g) (gD g)) (sJ (gB g) (gD g)) = .inl T → TxL L' t' T → RdG L (am_st h x 4 (-1)) L' h' x → am_X G mX0_read (d + 424) 15 [aR x, aI 0, aU] [aR t', aR x] L' h' Q := by
    intro T L' h' t' y1 y2 y3
    obtain ⟨g1, g2, g3, g4, g5⟩ := y3
    have hK' : MkL L' x := hK.lb g1 hx.2
    have hTI : TxtI T := pRead_I (fun a z => by have := sV_rg (a := a) hD z; exact ⟨by omega, by omega⟩) y1
    have hcl : ClL L' (x + 17) := a4.1.lb g1 (by omega)
    have hkc : kd L' (x + 17) = 5 := hcl.1
    refine x_putW dX0_read_15 fl574_0 rfl (by first | (exact MkL.k0 (by assumption)) | (assumption)) trivial ?_
    refine x_aload_0 dX0_read_18 ?_
    refine x_getR dX0_read_19 fl578_0 rfl (by first | (exact MkL.k0 (by assumption)) | (assumption)) (by first | (exact MkL.v_cloth (by assumption)) | (assumption)) ?_
    refine x_aload_0 dX0_read_22 ?_
    refine x_getW dX0_read_23 fl574_0 rfl (by first | (exact MkL.k0 (by assumption)) | (assumption)) (by exact am_st_s) ?_
    refine x_callVT (As := [aR t']) (b := x + 17) (rest := []) (n := 1) (lo := 7) (hi := 59) (ct := 26) dX0_read_26 rfl ⟨by decide, by decide⟩ (by decide) q160 okX5_begins q521 q522 q523 hkc am_k5 rfl rfl rfl ?_
    refine C_X5_begins (d := d) hcl hTI y2 (fun h2 w1 w2 => ?_)
    show am_X G mX0_read (d + 424) 29 _ _ L' h2 Q
    refine x_aload_0 dX0_read_29 ?_
    refine x_iconst dX0_read_30 ?_
    refine x_putI_ dX0_read_31 fl576_0 (by first | (exact MkL.k0 (by assumption)) | (assumption)) (by omega) ?_
    refine x_aload_0 dX0_read_34 ?_
    refine x_iconst dX0_read_35 ?_
    refine x_putI_ dX0_read_36 fl591_0 (by first | (exact MkL.k0 (by assumption)) | (assumption)) (by omega) ?_
    refine x_iconst dX0_read_39 ?_
    refine x_istore_2 dX0_read_40 rfl ?_
    have hlp : ∀ (n : Nat) (k : Int) (h3 : am_H), 0 ≤ k → k + n = 3 → (∀ j, 0 ≤ j → j < k → h3 (x + 180) j = 0) → (∀ a, a ≠ x + 180 → h3 a = am_st (am_st h2 x 5 0) x 20 0 a) → am_X G mX0_read (d + 424) 41 [aR x, aI 0, aI k] [] L' h3 Q := by
      intro n
      induction n with
      | zero =>
        intro k h3 z0 z1 z2 z3
        have ea : ∀ a, a ≠ x → a ≠ x + 180 → (a < x + 17 ∨ x + 48 ≤ a) → h3 a = h' a := fun a q1 q2 q3 => by rw [z3 a q2, am_st_o q1, am_st_o q1, w2 a (by omega), am_st_o q1]
        have e0 : ∀ j, j ≠ 5 → j ≠ 20 → j ≠ 3 → h3 x j = h' x j := fun j q1 q2 q3 => by rw [z3 x (by omega), am_st_i q2, am_st_i q1, w2 x (by omega), am_st_i q3]
        have e3 : h3 x 3 = t' := by rw [z3 x (by omega), am_st_i (by decide), am_st_i (by decide), w2 x (by omega), am_st_s]
        have e5 : h3 x 5 = 0 := by rw [z3 x (by omega), am_st_i (by decide), am_st_s]
        have e20 : h3 x 20 = 0 := by rw [z3 x (by omega), am_st_s]
        have g4x := g4 x (by omega) (by omega) (by omega) (by omega) (by omega) (by omega) (by omega) (by omega)
        have e6 : h3 x 6 = h x 6 := by rw [e0 6 (by decide) (by decide) (by decide), g4x, am_st_i (by decide)]
        have e4 : h3 x 4 = -1 := by rw [e0 4 (by decide) (by decide) (by decide), g4x, am_st_s]
        have eo : ∀ a, a ≠ x + 2 → am_st h3 (x + 2) 2 0 a = h3 a := fun a q => am_st_o q
        refine x_iload_2 dX0_read_41 ?_
        refine x_iconst dX0_read_42 ?_
        refine x_icmp_ge (tgt := 59) dX0_read_43 rfl (by omega) (by omega) (fun c43 => ?_) (fun c43 => ?_)
        · refine x_goto (tgt := 76) dX0_read_59 rfl ?_
          refine x_aload_0 dX0_read_76 ?_
          refine x_getR dX0_read_77 fl572_0 rfl (by first | (exact MkL.k0 (by assumption)) | (assumption)) (by first | (exact MkL.v_tokens (by assumption)) | (assumption)) ?_
          refine x_iconst dX0_read_80 ?_
          refine x_putI_ dX0_read_81 fl263_2 (by first | (exact MkL.k_tokens (by assumption)) | (assumption)) (by omega) ?_
          refine x_iload_1 dX0_read_84 ?_
          refine x_iret dX0_read_85 rfl ?_
          refine kS T L' _ t' y1 ⟨⟨hK', ?_, y2, ?_⟩, ⟨?_, ?_, ?_⟩, ?_, ⟨?_, ?_⟩, ⟨am_st_s, ?_⟩, ?_⟩ ⟨g1, g2, g3, fun a z => ?_⟩
          · rw [eo x (by omega)]; exact e3
          · exact w1.fr fun a q1 q2 => by rw [eo a (by omega), z3 a (by omega), am_st_o (by omega), am_st_o (by omega)]
          · rw [eo x (by omega)]; exact e5
          · rw [eo x (by omega), e6]; exact b2
          · intro k q1 q2
            have : k < 0 := q2
            omega
          · intro i q1 q2
            refine Or.inl ⟨rfl, ?_⟩
            rw [eo _ (by omega)]
            exact z2 i q1 (by omega)
          · rw [eo x (by omega)]; exact e20
          · intro i q1 q2
            have : i < 0 := q2
            omega
          · intro i q1 q2
            have : i < 0 := q2
            omega
          · rw [eo x (by omega)]; exact e4
          · rw [eo a (by omega), ea a (by omega) (by omega) (by omega), g4 a (by omega) (by omega) (by omega) (by omega) (by omega) (by omega) (by omega) (by omega), am_st_o (by omega)]
        · exfalso; omega
      | succ n ih =>
        intro k h3 z0 z1 z2 z3
        refine x_iload_2 dX0_read_41 ?_
        refine x_iconst dX0_read_42 ?_
        refine x_icmp_ge (tgt := 59) dX0_read_43 rfl (by omega) (by omega) (fun c43 => ?_) (fun c43 => ?_)
        · exfalso; omega
        · refine x_aload_0 dX0_read_46 ?_
          refine x_getR dX0_read_47 fl583_0 rfl (by first | (exact MkL.k0 (by assumption)) | (assumption)) (by first | (exact MkL.v_held (by assumption)) | (assumption)) ?_
          refine x_iload_2 dX0_read_50 ?_
          refine x_iconst dX0_read_51 ?_
          refine x_zast_ dX0_read_52 (by first | (exact MkL.k_held (by assumption)) | (assumption)) (by first | (exact MkL.x_held (by assumption) (by omega) (by omega)) | (omega)) (by omega) ?_
          refine x_iinc2 dX0_read_53 rfl ?_
          refine x_goto (tgt := 41) dX0_read_56 rfl ?_
          refine ih (k + 1) _ (by omega) (by omega) (fun j q1 q2 => ?_) (fun a q => by rw [am_st_o q]; exact z3 a q)
          by_cases e : j = k
          · rw [e, am_st_s]
          · rw [am_st_i e]; exact z2 j q1 (by omega)
    exact hlp 3 0 _ (by decide) (by decide) (fun j q1 q2 => by omega) (fun a q => rfl)
  refine x_iconst dX0_read_0 ?_
  refine x_istore_1 dX0_read_1 rfl ?_
  refine x_aload_0 dX0_read_2 ?_
  refine x_iconst dX0_read_3 ?_
  refine x_putI_ dX0_read_4 fl575_0 (by first | (exact MkL.k0 (by assumption)) | (assumption)) (by omega) ?_
  refine x_aload_0 dX0_read_7 ?_
  refine x_aload_0 dX0_read_8 ?_
  refine x_getR dX0_read_9 fl573_0 rfl (by first | (exact MkL.k0 (by assumption)) | (assumption)) (by first | (exact MkL.v_parser (by assumption)) | (assumption)) ?_
  refine x_callVT (As := []) (b := x + 9) (rest := [aR x]) (n := 0) (lo := 7) (hi := 59) (ct := 26) dX0_read_12 rfl ⟨by decide, by decide⟩ (by decide) q160 okX3_read q664 q665 q666 hK.k_parser am_k3 rfl rfl rfl ?_
  refine C_X3_read (d := d + 392) hK hx hW hTp h1l (fun T L' h' t' y1 y2 y3 y4 => ?_) (fun n tk L' h' y1 y2 y3 y4 => ⟨(hK.lb y2.1 hx.2).k_fault, hF n tk L' h' y1 y2 y4⟩)
  show am_X G mX0_read (d + 424) 15 _ [aR t', aR x] L' h' Q
  exact hmain T L' h' t' y1 y2 y3
end X0READ
