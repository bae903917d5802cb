/-! DUSK: the twin's side -/
set_option maxRecDepth 100000
section MDUSK
variable {G : am_G} {d : Nat} {L : am_L} {h h' : am_H} {Q : am_O → am_L → am_H → Prop} {x o s t : Int} {T : Txt} {S : Row} {b q : Int}
theorem FrW.fld {h : am_H} {o i v : Int} (hi : i = 54 ∨ i = 64 ∨ i = 65) : FrW h (am_st h o i v) o := fun a j z => by
  rw [am_st_at, if_neg (fun e => by have := z.2 e.1; omega)]
theorem FrW.arr {h : am_H} {o a i v : Int} (ha : o + 35 ≤ a ∧ a ≠ o + 37 ∧ a ≠ o + 40 ∧ a < o + 48) : FrW h (am_st h a i v) o := fun y j z => by
  rw [am_st_o (by omega)]
set_option maxHeartbeats 16000000 in
theorem C_X13_duskBy {ru : Int} (hC : TwT L h o s T S) (hT : TxtI T) (hI : RowI T S b q) (hq : q ≤ 100000) (hru : 0 ≤ ru ∧ ru ≤ 4) (k : ∀ h', FrW h h' o → RwF (h' (o + 38)) (tM T) (dkR T S ru).1 → h' o 64 = (dkR T S ru).2.1 → h' o 65 = (dkR T S ru).2.2 → Q (.inl []) L h') : am_C G mX13_duskBy (d + 10) [aR o, aI ru] L h Q := by
  have hM := hC.1
  have hL := hM.1
  have hs := hM.2.1
  have h7 := hT.1
  have b0 := pcs0_bd hT hI
  have fo := full_ok h7
  refine x_start okX13_duskBy rfl rfl rfl rfl ?_
  refine x_aload_0 dX13_duskBy_0 ?_
  refine x_callV0 dX13_duskBy_1 rfl okX13_copies q1934 q1936 qs81 (by first | assumption | (exact MdL.k0 (by assumption))) am_k13 rfl (C_X13_copiesR hL hC.2 hI hT (fun h1 e1 f1 e2 e3 => (x_k0 ?_)))
  refine x_aload_0 dX13_duskBy_4 ?_
  refine x_iconst dX13_duskBy_5 ?_
  refine x_putI_ dX13_duskBy_6 fl1638_13 (by first | (exact MdL.k0 (by assumption)) | (assumption)) (by omega) ?_
  refine x_aload_0 dX13_duskBy_9 ?_
  refine x_iconst dX13_duskBy_10 ?_
  refine x_putI_ dX13_duskBy_11 fl1639_13 (by first | (exact MdL.k0 (by assumption)) | (assumption)) (by omega) ?_
  refine x_iconst dX13_duskBy_14 ?_
  refine x_istore_2 dX13_duskBy_15 rfl ?_
  skip
  suffices H : ∀ (r : Nat) (S2 : Row) (y p : Int) (hh : am_H) (w3 w4 w5 w6 : AV), RowI T S2 b q → RwF (hh (o + 38)) (tM T) S2 → FrW h hh o → hh o 64 = y → hh o 65 = p → (0 ≤ y ∧ y + r = 421) → (0 ≤ p ∧ p + sumI (tM T) (rN S2) ≤ 420) → sumI (tM T) (rN S2) < r → dkF T ru r S2 y p = dkR T S ru → am_X G mX13_duskBy (d + 10) 16 [aR o, aI ru, aI 1, w3, w4, w5, w6] [] L hh Q from H 421 S 0 0 _ aU aU aU aU hI (by rw [am_st_o (by omega), am_st_o (by omega)]; exact e2) ((f1.tr (FrW.fld (by omega))).tr (FrW.fld (by omega))) (by simp [am_st_at]) (by simp [am_st_at]) (by omega) (by omega) (by omega) rfl
  clear e1 f1 e2 e3
  intro r
  induction r with
  | zero =>
    intro S2 y p hh w3 w4 w5 w6 z1 z2 z3 z4 z5 z6 z7 z8
    have := pcs0_bd hT z1
    omega
  | succ r ih =>
    intro S2 y p hh w3 w4 w5 w6 z1 z2 z3 z4 z5 z6 z7 z8 z9
    obtain ⟨q1, q2, q3, q4⟩ := dm_ok hT z1 ru y
    have bq2 := pcs0_bd hT q1
    have bq3 := pcs0_bd hT z1
    unfold dkF at z9
    refine x_iload_2 dX13_duskBy_16 ?_
    refine x_if_eq (tgt := 310) dX13_duskBy_17 rfl (by omega) (fun c17 => absurd c17 (by decide)) (fun c17 => ?_)
    refine x_iconst dX13_duskBy_20 ?_
    refine x_istore_2 dX13_duskBy_21 rfl ?_
    refine x_iconst dX13_duskBy_22 ?_
    refine x_istore_3 dX13_duskBy_23 rfl ?_
    skip
    refine x_forA (tM T) (fun i h2 (w : AV) => FrW h h2 o ∧ RwF (h2 (o + 38)) (tM T) S2 ∧ h2 o 64 = y ∧ h2 o 65 = p ∧ ∀ m, 0 ≤ m → m < i → h2 (o + 45) m = keyR T S2 ru y m) (fun i h2 w => am_X G mX13_duskBy (d + 10) 24 [aR o, aI ru, aI 0, aI i, w, w5, w6] [] L h2 Q) (fun i h2 w g0 g1 hP ih2 => ?_) hh w4 h7.1 ⟨z3, z2, z4, z5, fun m y0 y1 => by omega⟩
    obtain ⟨p1, p2, p3, p4, p5⟩ := hP
    have hM2 := hM.fr p1
    have hlv := hM2.2.2.1
    have hmen := hM2.2.2.2.1
    have hsd := hM2.2.2.2.2.2.2.2.1
    refine x_iload_3 dX13_duskBy_24 ?_
    refine x_aload_0 dX13_duskBy_25 ?_
    refine x_getR dX13_duskBy_26 fl1598_13 rfl (by first | (exact MdL.k0 (by assumption)) | (assumption)) (by first | (exact MdL.v_men (by assumption)) | (assumption)) ?_
    refine x_aload_0 dX13_duskBy_29 ?_
    refine x_getI_ dX13_duskBy_30 fl1592_13 (by first | (exact MdL.k0 (by assumption)) | (assumption)) (fun r30 => ?_)
    rw [hlv] at r30 ⊢
    refine x_iald_ dX13_duskBy_33 (by first | (exact MdL.k_men (by assumption)) | (assumption)) (by first | (exact MdL.x_men (by assumption) (by omega) (by omega)) | (omega)) (fun r33 => ?_)
    rw [hmen] at r33 ⊢
    refine x_icmp_ge (tgt := 176) dX13_duskBy_34 rfl (by omega) (by omega) (fun c34 => ?_) (fun c34 => ?_)
    · have ei : i = tM T := by omega
      rw [ei] at p5
      clear ih2
      refine x_iconst dX13_duskBy_176 ?_
      refine x_istore_3 dX13_duskBy_177 rfl ?_
      refine x_iconst dX13_duskBy_178 ?_
      refine x_istore4 dX13_duskBy_179 rfl ?_
      skip
      suffices H2 : ∀ (r2 f : Nat) (kk g so a n : Int) (S3 : Row) (h3 : am_H) (w5 w6 : AV), (r2 : Int) + kk = tM T → 0 ≤ kk → bits a = r2 → bits a ≤ f → (0 ≤ a ∧ a < 128) → (∀ m, tM T ≤ m → m < 7 → bt a m = 0) → (0 ≤ g ∧ g < 128) → (∀ m, 0 ≤ m → m < tM T → (bt g m = 0 ↔ bt a m = 1)) → RowI T S3 b q → RwF (h3 (o + 38)) (tM T) S3 → FrW h h3 o → h3 o 64 = y → h3 o 65 = p + n → 0 ≤ n → so = (if 0 < n then 1 else 0) → (∀ m, 0 ≤ m → m < tM T → h3 (o + 45) m = keyR T S2 ru y m) → sumI (tM T) (rN S3) + n = sumI (tM T) (rN S2) → wnA T (keyR T S2 ru y) f a S3 n = dmR T S2 ru y → am_X G mX13_duskBy (d + 10) 181 [aR o, aI ru, aI so, aI g, aI kk, w5, w6] [] L h3 Q from H2 (tM T).toNat 7 0 0 0 _ 0 S2 h2 w5 w6 (by omega) (by omega) (by rw [fo.2]; omega) (by rw [fo.2]; omega) fo.1 (full_hi hT) ⟨by omega, by omega⟩ (fun m y0 y1 => by rw [bt_0 ⟨y0, by omega⟩, full_bt h7 ⟨y0, by omega⟩, if_pos y1]; omega) z1 p2 p1 p3 (by omega) (by omega) rfl p5 (by omega) rfl
      clear p1 p2 p3 p4 p5 hM2 hlv hmen hsd
      intro r2
      induction r2 with
      | zero =>
        intro f kk g so a n S3 h3 w5 w6 x1 x2 x3 x4 x5 x6 x7 x8 x9 x10 x11 x12 x13 x14 x15 x16 x17 x18
        have e0 := bits_0 x5 (by omega)
        have hM3 := hM.fr x11
        have hlv := hM3.2.2.1
        have hmen := hM3.2.2.2.1
        have eD : dmR T S2 ru y = (S3, n) := by
          rw [← x18, e0]
          cases f with
          | zero => rfl
          | succ f => unfold wnA; rw [if_pos rfl]
        rw [eD] at z9 q3 q4
        refine x_iload4 dX13_duskBy_181 ?_
        refine x_aload_0 dX13_duskBy_183 ?_
        refine x_getR dX13_duskBy_184 fl1598_13 rfl (by first | (exact MdL.k0 (by assumption)) | (assumption)) (by first | (exact MdL.v_men (by assumption)) | (assumption)) ?_
        refine x_aload_0 dX13_duskBy_187 ?_
        refine x_getI_ dX13_duskBy_188 fl1592_13 (by first | (exact MdL.k0 (by assumption)) | (assumption)) (fun r188 => ?_)
        rw [hlv] at r188 ⊢
        refine x_iald_ dX13_duskBy_191 (by first | (exact MdL.k_men (by assumption)) | (assumption)) (by first | (exact MdL.x_men (by assumption) (by omega) (by omega)) | (omega)) (fun r191 => ?_)
        rw [hmen] at r191 ⊢
        refine x_icmp_ge (tgt := 293) dX13_duskBy_192 rfl (by omega) (by omega) (fun c192 => ?_) (fun c192 => ?_)
        · by_cases en : 0 < n
          · rw [if_pos en] at z9 x15
            rw [x15]
            refine x_iload_2 dX13_duskBy_293 ?_
            refine x_if_eq (tgt := 307) dX13_duskBy_294 rfl (by omega) (fun c294 => ?_) (fun c294 => ?_)
            · refine x_goto (tgt := 16) dX13_duskBy_307 rfl ?_
              first
              | (exfalso; exact absurd c294 (by decide))
              | refine ih _ _ _ _ _ _ _ _ x9 (by rw [am_st_o (by omega)]; exact x10) (x11.tr (FrW.fld (by omega))) (by simp [am_st_at]) (by rw [am_st_i (by omega)]; exact x13) (by omega) (by omega) (by omega) z9
            · refine x_aload_0 dX13_duskBy_297 ?_
              refine x_dup dX13_duskBy_298 rfl ?_
              refine x_getI_ dX13_duskBy_299 fl1638_13 (by first | (exact MdL.k0 (by assumption)) | (assumption)) (fun r299 => ?_)
              rw [x12] at r299 ⊢
              refine x_iconst dX13_duskBy_302 ?_
              refine x_iadd dX13_duskBy_303 ?_
              refine x_putI_ dX13_duskBy_304 fl1638_13 (by first | (exact MdL.k0 (by assumption)) | (assumption)) (by omega) ?_
              refine x_goto (tgt := 16) dX13_duskBy_307 rfl ?_
              first
              | (exfalso; exact absurd c294 (by decide))
              | refine ih _ _ _ _ _ _ _ _ x9 (by rw [am_st_o (by omega)]; exact x10) (x11.tr (FrW.fld (by omega))) (by simp [am_st_at]) (by rw [am_st_i (by omega)]; exact x13) (by omega) (by omega) (by omega) z9
          · rw [if_neg en] at z9 x15
            rw [x15]
            refine x_iload_2 dX13_duskBy_293 ?_
            refine x_if_eq (tgt := 307) dX13_duskBy_294 rfl (by omega) (fun c294 => ?_) (fun c294 => ?_)
            · refine x_goto (tgt := 16) dX13_duskBy_307 rfl ?_
              skip
              refine x_iload_2 dX13_duskBy_16 ?_
              refine x_if_eq (tgt := 310) dX13_duskBy_17 rfl (by omega) (fun c17 => ?_) (fun c17 => ?_)
              · refine x_ret dX13_duskBy_310 rfl ?_
                refine k h3 x11 ?_ ?_ ?_
                · rw [← z9]; exact x10
                · rw [← z9]; exact x12
                · rw [← z9]; show _ = p; omega
              · exfalso; exact absurd rfl c17
            · exfalso; exact absurd rfl c294
        · exfalso; omega
      | succ r2 ihr =>
        intro f kk g so a n S3 h3 w5 w6 x1 x2 x3 x4 x5 x6 x7 x8 x9 x10 x11 x12 x13 x14 x15 x16 x17 x18
        have hM3 := hM.fr x11
        have hlv := hM3.2.2.1
        have hmen := hM3.2.2.2.1
        have ha0 : a ≠ 0 := fun z => by
          rw [z] at x3
          have : bits 0 = 0 := by decide +kernel
          omega
        obtain ⟨n1, n2⟩ := nx_in hT (keyR T S2 ru y) x5 ha0 x6
        match f, x4, x18 with
        | 0, x4, _ => omega
        | f + 1, x4, x18 =>
        unfold wnA at x18
        rw [if_neg ha0] at x18
        refine x_iload4 dX13_duskBy_181 ?_
        refine x_aload_0 dX13_duskBy_183 ?_
        refine x_getR dX13_duskBy_184 fl1598_13 rfl (by first | (exact MdL.k0 (by assumption)) | (assumption)) (by first | (exact MdL.v_men (by assumption)) | (assumption)) ?_
        refine x_aload_0 dX13_duskBy_187 ?_
        refine x_getI_ dX13_duskBy_188 fl1592_13 (by first | (exact MdL.k0 (by assumption)) | (assumption)) (fun r188 => ?_)
        rw [hlv] at r188 ⊢
        refine x_iald_ dX13_duskBy_191 (by first | (exact MdL.k_men (by assumption)) | (assumption)) (by first | (exact MdL.x_men (by assumption) (by omega) (by omega)) | (omega)) (fun r191 => ?_)
        rw [hmen] at r191 ⊢
        refine x_icmp_ge (tgt := 293) dX13_duskBy_192 rfl (by omega) (by omega) (fun c192 => ?_) (fun c192 => ?_)
        · exfalso; omega
        · refine x_iconst dX13_duskBy_195 ?_
          refine x_istore5 dX13_duskBy_196 rfl ?_
          refine x_iconst dX13_duskBy_198 ?_
          refine x_istore6 dX13_duskBy_199 rfl ?_
          refine x_up0 (tM T) (fun i => 0 ≤ i → i ≤ tM T → am_X G mX13_duskBy (d + 10) 201 [aR o, aI ru, aI so, aI g, aI kk, aI (nxI (keyR T S2 ru y) a i.toNat), aI i] [] L h3 Q) (fun i ihi y0 y1 => ?_) 0 (by omega) h7.1
          have hbt : bt g i = bAnd (bShr g i) 1 := rfl
          have bt1 := bt_01 g i
          have bt2 := bt_01 a i
          have nb := nx_ok (keyR T S2 ru y) a i.toNat
          have nxt : ∀ v, i < tM T → v = nxI (keyR T S2 ru y) a (i + 1).toNat → am_X G mX13_duskBy (d + 10) 201 [aR o, aI ru, aI so, aI g, aI kk, aI v, aI (i + 1)] [] L h3 Q := fun v z e => by rw [e]; exact ihi z (by omega) (by omega)
          refine x_iload6 dX13_duskBy_201 ?_
          refine x_aload_0 dX13_duskBy_203 ?_
          refine x_getR dX13_duskBy_204 fl1598_13 rfl (by first | (exact MdL.k0 (by assumption)) | (assumption)) (by first | (exact MdL.v_men (by assumption)) | (assumption)) ?_
          refine x_aload_0 dX13_duskBy_207 ?_
          refine x_getI_ dX13_duskBy_208 fl1592_13 (by first | (exact MdL.k0 (by assumption)) | (assumption)) (fun r208 => ?_)
          rw [hlv] at r208 ⊢
          refine x_iald_ dX13_duskBy_211 (by first | (exact MdL.k_men (by assumption)) | (assumption)) (by first | (exact MdL.x_men (by assumption) (by omega) (by omega)) | (omega)) (fun r211 => ?_)
          rw [hmen] at r211 ⊢
          refine x_icmp_ge (tgt := 256) dX13_duskBy_212 rfl (by omega) (by omega) (fun c212 => ?_) (fun c212 => ?_)
          · have ei : i = tM T := by omega
            rw [ei]
            generalize nxI (keyR T S2 ru y) a (tM T).toNat = m at n1 n2 x18 ⊢
            have c1 := clr_rg x5 (m := m) ⟨n1.1, by omega⟩
            have c2 := clr_hi x5 (m := m) ⟨n1.1, by omega⟩ h7.1 x6
            have c3 := clr_bits x5 (m := m) ⟨n1.1, by omega⟩ n2
            have sb := (shl_bt (m := m) ⟨n1.1, by omega⟩ (o := 0) ⟨by decide, by decide⟩).2
            have og := (bOr_bt x7 sb (m := 0) ⟨by decide, by decide⟩).2
            have hx8 : ∀ j, 0 ≤ j → j < tM T → (bt (bOr g (bShl 1 m)) j = 0 ↔ bt (dif a (bShl 1 m)) j = 1) := fun j y0 y1 => by
              rw [(bOr_bt x7 sb (m := j) ⟨y0, by omega⟩).1, (dif_bt x5 sb (m := j) ⟨y0, by omega⟩).1, (shl_bt (m := m) ⟨n1.1, by omega⟩ (o := j) ⟨y0, by omega⟩).1]
              have := x8 j y0 y1
              have := bt_01 g j
              (repeat' split) <;> omega
            refine x_iload_3 dX13_duskBy_256 ?_
            refine x_iconst dX13_duskBy_257 ?_
            refine x_iload5 dX13_duskBy_258 ?_
            refine x_ishl dX13_duskBy_260 ?_
            refine x_ior dX13_duskBy_261 ?_
            refine x_istore_3 dX13_duskBy_262 rfl ?_
            refine x_aload_0 dX13_duskBy_263 ?_
            refine x_iload5 dX13_duskBy_264 ?_
            refine x_callV1 dX13_duskBy_266 rfl okX13_winds q2006 q2008 qs91 (by first | assumption | (exact MdL.k0 (by assumption))) am_k13 rfl (C_X13_winds hM3 hT n1 x10 x9 hq (fun hcan h4 r4 f4 => (x_k1 ?_)) (fun hcan => (x_k1 ?_)))
            · rw [if_pos hcan] at x18
              have F4 : FrW h3 h4 o := fun a' i' z => by rw [f4 a' (by omega)]
              have e4 : h4 o = h3 o := f4 o (by omega)
              have es : sumI (tM T) (rN (windR S3 m)) = sumI (tM T) (rN S3) - 1 := by
                show sumI (tM T) (up1 (rN S3) m (rN S3 m - 1)) = _
                rw [sumI_up n1]
                omega
              have ew : h4 o 65 = p + n := by rw [e4]; exact x13
              have bs3 := pcs0_bd hT (x9.wind hT n1 hcan)
              refine x_if_ne (tgt := 275) dX13_duskBy_269 rfl (by omega) (fun c269 => ?_) (fun c269 => ?_)
              · refine x_iconst dX13_duskBy_275 ?_
                refine x_istore_2 dX13_duskBy_276 rfl ?_
                refine x_aload_0 dX13_duskBy_277 ?_
                refine x_dup dX13_duskBy_278 rfl ?_
                refine x_getI_ dX13_duskBy_279 fl1639_13 (by first | (exact MdL.k0 (by assumption)) | (assumption)) (fun r279 => ?_)
                rw [ew] at r279 ⊢
                refine x_iconst dX13_duskBy_282 ?_
                refine x_iadd dX13_duskBy_283 ?_
                refine x_putI_ dX13_duskBy_284 fl1639_13 (by first | (exact MdL.k0 (by assumption)) | (assumption)) (by omega) ?_
                refine x_iinc4 dX13_duskBy_287 rfl ?_
                refine x_goto (tgt := 181) dX13_duskBy_290 rfl ?_
                exact ihr f _ _ _ (dif a (bShl 1 m)) (n + 1) _ _ _ _ (by omega) (by omega) (by omega) (by omega) c1 c2 og hx8 (x9.wind hT n1 hcan) (by rw [am_st_o (by omega)]; exact r4) ((x11.tr F4).tr (FrW.fld (by omega))) (by rw [am_st_i (by omega), e4]; exact x12) (by rw [am_st_s]; omega) (by omega) (by rw [if_pos (by omega)]) (fun j y0 y1 => by rw [am_st_o (by omega), f4 _ (by omega)]; exact x16 j y0 y1) (by omega) x18
              · exact absurd c269 (by decide)
            · rw [if_neg hcan] at x18
              refine x_if_ne (tgt := 275) dX13_duskBy_269 rfl (by omega) (fun c269 => ?_) (fun c269 => ?_)
              · exact absurd rfl c269
              · refine x_goto (tgt := 287) dX13_duskBy_272 rfl ?_
                refine x_iinc4 dX13_duskBy_287 rfl ?_
                refine x_goto (tgt := 181) dX13_duskBy_290 rfl ?_
                exact ihr f _ _ _ (dif a (bShl 1 m)) n _ _ _ _ (by omega) (by omega) (by omega) (by omega) c1 c2 og hx8 x9 x10 x11 x12 x13 x14 x15 x16 x17 x18
          · have hi : i < tM T := by omega
            have k1 := x16 i y0 hi
            have xg := x8 i y0 hi
            have fin : ∀ v, v = nxI (keyR T S2 ru y) a (i + 1).toNat → am_X G mX13_duskBy (d + 10) 250 [aR o, aI ru, aI so, aI g, aI kk, aI v, aI i] [] L h3 Q := fun v e => by
              refine x_iinc6 dX13_duskBy_250 rfl ?_
              refine x_goto (tgt := 201) dX13_duskBy_253 rfl ?_
              exact nxt _ hi e
            refine x_iload_3 dX13_duskBy_215 ?_
            refine x_iload6 dX13_duskBy_216 ?_
            refine x_ishr dX13_duskBy_218 ?_
            refine x_iconst dX13_duskBy_219 ?_
            refine x_iand dX13_duskBy_220 ?_
            refine x_if_ne (tgt := 250) dX13_duskBy_221 rfl (by omega) (fun c221 => ?_) (fun c221 => ?_)
            · refine fin _ ?_
              rw [nxI_s y0]
              first
              | (rw [if_pos ⟨by omega, by omega⟩]; done)
              | (rw [if_neg (by omega)]; done)
            · refine x_iload5 dX13_duskBy_224 ?_
              refine x_if_lt (tgt := 246) dX13_duskBy_226 rfl (by omega) (fun c226 => ?_) (fun c226 => ?_)
              · refine x_iload6 dX13_duskBy_246 ?_
                refine x_istore5 dX13_duskBy_248 rfl ?_
                refine fin _ ?_
                rw [nxI_s y0]
                first
                | (rw [if_pos ⟨by omega, by omega⟩]; done)
                | (rw [if_neg (by omega)]; done)
              · have k2 := x16 (nxI (keyR T S2 ru y) a i.toNat) (by omega) (by omega)
                refine x_aload_0 dX13_duskBy_229 ?_
                refine x_getR dX13_duskBy_230 fl1640_13 rfl (by first | (exact MdL.k0 (by assumption)) | (assumption)) (by first | (exact MdL.v_keyOf (by assumption)) | (assumption)) ?_
                refine x_iload6 dX13_duskBy_233 ?_
                refine x_iald_ dX13_duskBy_235 (by first | (exact MdL.k_keyOf (by assumption)) | (assumption)) (by first | (exact MdL.x_keyOf (by assumption) (by omega) (by omega)) | (omega)) (fun r235 => ?_)
                simp (disch := omega) only [k1, k2] at r235 ⊢
                refine x_aload_0 dX13_duskBy_236 ?_
                refine x_getR dX13_duskBy_237 fl1640_13 rfl (by first | (exact MdL.k0 (by assumption)) | (assumption)) (by first | (exact MdL.v_keyOf (by assumption)) | (assumption)) ?_
                refine x_iload5 dX13_duskBy_240 ?_
                refine x_iald_ dX13_duskBy_242 (by first | (exact MdL.k_keyOf (by assumption)) | (assumption)) (by first | (exact MdL.x_keyOf (by assumption) (by omega) (by omega)) | (omega)) (fun r242 => ?_)
                simp (disch := omega) only [k1, k2] at r242 ⊢
                refine x_icmp_le (tgt := 250) dX13_duskBy_243 rfl (by omega) (by omega) (fun c243 => ?_) (fun c243 => ?_)
                · refine fin _ ?_
                  rw [nxI_s y0]
                  first
                  | (rw [if_pos ⟨by omega, by omega⟩]; done)
                  | (rw [if_neg (by omega)]; done)
                · refine x_iload6 dX13_duskBy_246 ?_
                  refine x_istore5 dX13_duskBy_248 rfl ?_
                  refine fin _ ?_
                  rw [nxI_s y0]
                  first
                  | (rw [if_pos ⟨by omega, by omega⟩]; done)
                  | (rw [if_neg (by omega)]; done)
    · have hi : i < tM T := by omega
      have kr := keyR_rg z1 hT hq (ru := ru) (y := y) ⟨g0, hi⟩
      have en := (p2.1 i g0 (by omega)).1
      have bn := z1.n60 hT i g0 (by omega)
      have erm := p2.2.2.2.1
      have brm := z1.2.2.2.2.2.2.1
      have st169 : ∀ (v : Int) (h3 : am_H) (w : AV), v = keyR T S2 ru y i → FrW h h3 o → RwF (h3 (o + 38)) (tM T) S2 → h3 o 64 = y → h3 o 65 = p → (∀ m, 0 ≤ m → m < i → h3 (o + 45) m = keyR T S2 ru y m) → am_X G mX13_duskBy (d + 10) 169 [aR o, aI ru, aI 0, aI i, w, w5, w6] [aI v, aI i, aR (o + 45)] L h3 Q := fun v h3 w e y1 y2 y3 y4 y5 => by
        rw [e]
        refine x_iast_ dX13_duskBy_169 (by exact MdL.k_keyOf hL) (by exact MdL.x_keyOf hL (by omega) (by omega)) (by exact kr) ?_
        refine x_iinc3 dX13_duskBy_170 rfl ?_
        refine x_goto (tgt := 24) dX13_duskBy_173 rfl ?_
        refine ih2 _ _ hi ⟨y1.tr (FrW.arr (by omega)), by rw [am_st_o (by omega)]; exact y2, by rw [am_st_o (by omega)]; exact y3, by rw [am_st_o (by omega)]; exact y4, fun m x0 x1 => ?_⟩
        rw [am_st_at]
        by_cases e : m = i
        · rw [if_pos ⟨rfl, e⟩, e]
        · rw [if_neg (fun z => e z.2)]
          exact y5 m x0 (by omega)
      refine x_bipush dX13_duskBy_37 rfl ?_
      refine x_iload_3 dX13_duskBy_39 ?_
      refine x_imul dX13_duskBy_40 ?_
      refine x_aload_0 dX13_duskBy_41 ?_
      refine x_getR dX13_duskBy_42 fl1630_13 rfl (by first | (exact MdL.k0 (by assumption)) | (assumption)) (by first | (exact MdL.v_row (by assumption)) | (assumption)) ?_
      refine x_bipush dX13_duskBy_45 rfl ?_
      refine x_iload_3 dX13_duskBy_47 ?_
      refine x_iadd dX13_duskBy_48 ?_
      refine x_iald_ dX13_duskBy_49 (by first | (exact MdL.k_row (by assumption)) | (assumption)) (by first | (exact MdL.x_row (by assumption) (by omega) (by omega)) | (omega)) (fun r49 => ?_)
      simp (disch := omega) only [en, erm] at r49 ⊢
      refine x_iadd dX13_duskBy_50 ?_
      refine x_iconst dX13_duskBy_51 ?_
      refine x_isub dX13_duskBy_52 ?_
      refine x_istore4 dX13_duskBy_53 rfl ?_
      refine x_aload_0 dX13_duskBy_55 ?_
      refine x_getR dX13_duskBy_56 fl1640_13 rfl (by first | (exact MdL.k0 (by assumption)) | (assumption)) (by first | (exact MdL.v_keyOf (by assumption)) | (assumption)) ?_
      refine x_iload_3 dX13_duskBy_59 ?_
      refine x_iload_1 dX13_duskBy_60 ?_
      refine x_if_ne (tgt := 68) dX13_duskBy_61 rfl (by omega) (fun c61 => ?_) (fun c61 => ?_)
      · refine x_iload_1 dX13_duskBy_68 ?_
        refine x_iconst dX13_duskBy_69 ?_
        refine x_icmp_ne (tgt := 85) dX13_duskBy_70 rfl (by omega) (by omega) (fun c70 => ?_) (fun c70 => ?_)
        · refine x_iload_1 dX13_duskBy_85 ?_
          refine x_iconst dX13_duskBy_86 ?_
          refine x_icmp_ne (tgt := 98) dX13_duskBy_87 rfl (by omega) (by omega) (fun c87 => ?_) (fun c87 => ?_)
          · refine x_iload_1 dX13_duskBy_98 ?_
            refine x_iconst dX13_duskBy_99 ?_
            refine x_icmp_ne (tgt := 133) dX13_duskBy_100 rfl (by omega) (by omega) (fun c100 => ?_) (fun c100 => ?_)
            · refine x_aload_0 dX13_duskBy_133 ?_
              refine x_getR dX13_duskBy_134 fl1608_13 rfl (by first | (exact MdL.k0 (by assumption)) | (assumption)) (by first | (exact MdL.v_seed (by assumption)) | (assumption)) ?_
              refine x_aload_0 dX13_duskBy_137 ?_
              refine x_getI_ dX13_duskBy_138 fl1592_13 (by first | (exact MdL.k0 (by assumption)) | (assumption)) (fun r138 => ?_)
              rw [hlv] at r138 ⊢
              refine x_iald_ dX13_duskBy_141 (by first | (exact MdL.k_seed (by assumption)) | (assumption)) (by first | (exact MdL.x_seed (by assumption) (by omega) (by omega)) | (omega)) (fun r141 => ?_)
              rw [hsd] at r141 ⊢
              refine x_sipush dX13_duskBy_142 rfl ?_
              refine x_bipush dX13_duskBy_145 rfl ?_
              refine x_aload_0 dX13_duskBy_147 ?_
              refine x_getR dX13_duskBy_148 fl1630_13 rfl (by first | (exact MdL.k0 (by assumption)) | (assumption)) (by first | (exact MdL.v_row (by assumption)) | (assumption)) ?_
              refine x_bipush dX13_duskBy_151 rfl ?_
              refine x_iald_ dX13_duskBy_153 (by first | (exact MdL.k_row (by assumption)) | (assumption)) (by first | (exact MdL.x_row (by assumption) (by omega) (by omega)) | (omega)) (fun r153 => ?_)
              simp (disch := omega) only [en, erm] at r153 ⊢
              refine x_aload_0 dX13_duskBy_154 ?_
              refine x_getI_ dX13_duskBy_155 fl1638_13 (by first | (exact MdL.k0 (by assumption)) | (assumption)) (fun r155 => ?_)
              rw [p3] at r155 ⊢
              refine x_iadd dX13_duskBy_158 ?_
              refine x_imul dX13_duskBy_159 ?_
              refine x_iadd dX13_duskBy_160 ?_
              refine x_iload_3 dX13_duskBy_161 ?_
              refine x_iadd dX13_duskBy_162 ?_
              refine x_sipush dX13_duskBy_163 rfl ?_
              refine x_callS3 dX13_duskBy_166 rfl okX13_lotOf q1961 q1962 rfl (C_X13_lotOf ⟨by decide, by decide⟩ (by decide) (x_k1 ?_))
              first
              | (refine st169 _ _ _ ?_ p1 p2 p3 p4 p5
                 unfold keyR
                 first
                 | (rw [if_pos (by omega)]; done)
                 | (rw [if_neg (by omega), if_pos (by omega)]; done)
                 | (rw [if_neg (by omega), if_neg (by omega), if_neg (by omega), if_pos (by omega), if_pos (by omega)]; done)
                 | (rw [if_neg (by omega), if_neg (by omega), if_neg (by omega), if_neg (by omega)]; done))
              | (refine st169 _ _ _ ?_ (p1.tr f3.w) (by rw [f3.row]; exact p2) (by rw [f3 o 64 ⟨by omega, by omega, fun _ => by omega⟩]; exact p3) (by rw [f3 o 65 ⟨by omega, by omega, fun _ => by omega⟩]; exact p4) (fun m x0 x1 => by rw [f3 (o + 45) m ⟨by omega, by omega, fun z => by omega⟩]; exact p5 m x0 x1)
                 unfold keyR
                 rw [if_neg (by omega), if_neg (by omega), if_pos (by omega)])
            · refine x_aload_0 dX13_duskBy_103 ?_
              refine x_getR dX13_duskBy_104 fl1630_13 rfl (by first | (exact MdL.k0 (by assumption)) | (assumption)) (by first | (exact MdL.v_row (by assumption)) | (assumption)) ?_
              refine x_bipush dX13_duskBy_107 rfl ?_
              refine x_iload_3 dX13_duskBy_109 ?_
              refine x_iadd dX13_duskBy_110 ?_
              refine x_iald_ dX13_duskBy_111 (by first | (exact MdL.k_row (by assumption)) | (assumption)) (by first | (exact MdL.x_row (by assumption) (by omega) (by omega)) | (omega)) (fun r111 => ?_)
              simp (disch := omega) only [en, erm] at r111 ⊢
              refine x_if_ne (tgt := 119) dX13_duskBy_112 rfl (by omega) (fun c112 => ?_) (fun c112 => ?_)
              · have et := (p2.2.2.1 i (rN S2 i - 1) g0 (by omega) (by omega) (by omega)).2.1
                rw [show 450 + (60 * i + (rN S2 i - 1)) = 450 + (60 * i + rN S2 i - 1) by omega] at et
                refine x_aload_0 dX13_duskBy_119 ?_
                refine x_getR dX13_duskBy_120 fl1630_13 rfl (by first | (exact MdL.k0 (by assumption)) | (assumption)) (by first | (exact MdL.v_row (by assumption)) | (assumption)) ?_
                refine x_sipush dX13_duskBy_123 rfl ?_
                refine x_iload4 dX13_duskBy_126 ?_
                refine x_iadd dX13_duskBy_128 ?_
                refine x_iald_ dX13_duskBy_129 (by first | (exact MdL.k_row (by assumption)) | (assumption)) (by first | (exact MdL.x_row (by assumption) (by omega) (by omega)) | (omega)) (fun r129 => ?_)
                simp (disch := omega) only [et] at r129 ⊢
                refine x_goto (tgt := 169) dX13_duskBy_130 rfl ?_
                refine st169 _ _ _ ?_ p1 p2 p3 p4 p5
                unfold keyR
                rw [if_neg (by omega), if_neg (by omega), if_neg (by omega), if_pos (by omega), if_neg (by omega)]
              · refine x_iconst dX13_duskBy_115 ?_
                refine x_goto (tgt := 169) dX13_duskBy_116 rfl ?_
                first
                | (refine st169 _ _ _ ?_ p1 p2 p3 p4 p5
                   unfold keyR
                   first
                   | (rw [if_pos (by omega)]; done)
                   | (rw [if_neg (by omega), if_pos (by omega)]; done)
                   | (rw [if_neg (by omega), if_neg (by omega), if_neg (by omega), if_pos (by omega), if_pos (by omega)]; done)
                   | (rw [if_neg (by omega), if_neg (by omega), if_neg (by omega), if_neg (by omega)]; done))
                | (refine st169 _ _ _ ?_ (p1.tr f3.w) (by rw [f3.row]; exact p2) (by rw [f3 o 64 ⟨by omega, by omega, fun _ => by omega⟩]; exact p3) (by rw [f3 o 65 ⟨by omega, by omega, fun _ => by omega⟩]; exact p4) (fun m x0 x1 => by rw [f3 (o + 45) m ⟨by omega, by omega, fun z => by omega⟩]; exact p5 m x0 x1)
                   unfold keyR
                   rw [if_neg (by omega), if_neg (by omega), if_pos (by omega)])
          · refine x_aload_0 dX13_duskBy_90 ?_
            refine x_iload_3 dX13_duskBy_91 ?_
            refine x_callV1 dX13_duskBy_92 rfl okX13_leftOf q1938 q1940 qs82 (by first | assumption | (exact MdL.k0 (by assumption))) am_k13 rfl (C_X13_leftOf hM2 hT ⟨g0, hi⟩ p2 (fun h3 f3 => (x_k1 ?_)))
            refine x_goto (tgt := 169) dX13_duskBy_95 rfl ?_
            first
            | (refine st169 _ _ _ ?_ p1 p2 p3 p4 p5
               unfold keyR
               first
               | (rw [if_pos (by omega)]; done)
               | (rw [if_neg (by omega), if_pos (by omega)]; done)
               | (rw [if_neg (by omega), if_neg (by omega), if_neg (by omega), if_pos (by omega), if_pos (by omega)]; done)
               | (rw [if_neg (by omega), if_neg (by omega), if_neg (by omega), if_neg (by omega)]; done))
            | (refine st169 _ _ _ ?_ (p1.tr f3.w) (by rw [f3.row]; exact p2) (by rw [f3 o 64 ⟨by omega, by omega, fun _ => by omega⟩]; exact p3) (by rw [f3 o 65 ⟨by omega, by omega, fun _ => by omega⟩]; exact p4) (fun m x0 x1 => by rw [f3 (o + 45) m ⟨by omega, by omega, fun z => by omega⟩]; exact p5 m x0 x1)
               unfold keyR
               rw [if_neg (by omega), if_neg (by omega), if_pos (by omega)])
        · refine x_aload_0 dX13_duskBy_73 ?_
          refine x_getR dX13_duskBy_74 fl1630_13 rfl (by first | (exact MdL.k0 (by assumption)) | (assumption)) (by first | (exact MdL.v_row (by assumption)) | (assumption)) ?_
          refine x_bipush dX13_duskBy_77 rfl ?_
          refine x_iload_3 dX13_duskBy_79 ?_
          refine x_iadd dX13_duskBy_80 ?_
          refine x_iald_ dX13_duskBy_81 (by first | (exact MdL.k_row (by assumption)) | (assumption)) (by first | (exact MdL.x_row (by assumption) (by omega) (by omega)) | (omega)) (fun r81 => ?_)
          simp (disch := omega) only [en, erm] at r81 ⊢
          refine x_goto (tgt := 169) dX13_duskBy_82 rfl ?_
          first
          | (refine st169 _ _ _ ?_ p1 p2 p3 p4 p5
             unfold keyR
             first
             | (rw [if_pos (by omega)]; done)
             | (rw [if_neg (by omega), if_pos (by omega)]; done)
             | (rw [if_neg (by omega), if_neg (by omega), if_neg (by omega), if_pos (by omega), if_pos (by omega)]; done)
             | (rw [if_neg (by omega), if_neg (by omega), if_neg (by omega), if_neg (by omega)]; done))
          | (refine st169 _ _ _ ?_ (p1.tr f3.w) (by rw [f3.row]; exact p2) (by rw [f3 o 64 ⟨by omega, by omega, fun _ => by omega⟩]; exact p3) (by rw [f3 o 65 ⟨by omega, by omega, fun _ => by omega⟩]; exact p4) (fun m x0 x1 => by rw [f3 (o + 45) m ⟨by omega, by omega, fun z => by omega⟩]; exact p5 m x0 x1)
             unfold keyR
             rw [if_neg (by omega), if_neg (by omega), if_pos (by omega)])
      · refine x_iconst dX13_duskBy_64 ?_
        refine x_goto (tgt := 169) dX13_duskBy_65 rfl ?_
        first
        | (refine st169 _ _ _ ?_ p1 p2 p3 p4 p5
           unfold keyR
           first
           | (rw [if_pos (by omega)]; done)
           | (rw [if_neg (by omega), if_pos (by omega)]; done)
           | (rw [if_neg (by omega), if_neg (by omega), if_neg (by omega), if_pos (by omega), if_pos (by omega)]; done)
           | (rw [if_neg (by omega), if_neg (by omega), if_neg (by omega), if_neg (by omega)]; done))
        | (refine st169 _ _ _ ?_ (p1.tr f3.w) (by rw [f3.row]; exact p2) (by rw [f3 o 64 ⟨by omega, by omega, fun _ => by omega⟩]; exact p3) (by rw [f3 o 65 ⟨by omega, by omega, fun _ => by omega⟩]; exact p4) (fun m x0 x1 => by rw [f3 (o + 45) m ⟨by omega, by omega, fun z => by omega⟩]; exact p5 m x0 x1)
           unfold keyR
           rw [if_neg (by omega), if_neg (by omega), if_pos (by omega)])
set_option maxHeartbeats 4000000 in
theorem C_X13_dusk {ru w : Int} (hC : TwT L h o s T S) (hT : TxtI T) (hI : RowI T S b q) (hq : q ≤ 100000) (hru : rg32 ru) (hw : rg32 w) (k : ∀ h', FrW h h' o → Q (.inl [aI (duskV T S ru w)]) L h') : am_C G mX13_dusk (d + 12) [aR o, aI ru, aI w] L h Q := by
  have hM := hC.1
  have hL := hM.1
  have hs := hM.2.1
  have h7 := hT.1
  refine x_start okX13_dusk rfl rfl rfl rfl ?_
  refine x_iload_1 dX13_dusk_0 ?_
  refine x_iconst dX13_dusk_1 ?_
  refine x_iconst dX13_dusk_2 ?_
  refine x_callS3 dX13_dusk_3 rfl okX13_in q1931 q1932 rfl (C_X13_in hru ⟨by decide, by decide⟩ ⟨by decide, by decide⟩ (x_k1 ?_))
  refine x_if_eq (tgt := 18) dX13_dusk_6 rfl (by split <;> omega) (fun c6 => ?_) (fun c6 => ?_)
  · skip
    refine x_iconst dX13_dusk_18 ?_
    refine x_iret dX13_dusk_19 rfl ?_
    refine x_q1 ?_ (k h (FrW.rf h o))
    unfold duskV
    rw [if_neg (fun z => by obtain ⟨z1, z2⟩ := z; first | (rw [if_pos z1] at c6; omega) | (rw [if_pos z2] at c15; omega))]
  · refine x_iload_2 dX13_dusk_9 ?_
    refine x_iconst dX13_dusk_10 ?_
    refine x_iconst dX13_dusk_11 ?_
    refine x_callS3 dX13_dusk_12 rfl okX13_in q1931 q1932 rfl (C_X13_in hw ⟨by decide, by decide⟩ ⟨by decide, by decide⟩ (x_k1 ?_))
    refine x_if_ne (tgt := 20) dX13_dusk_15 rfl (by split <;> omega) (fun c15 => ?_) (fun c15 => ?_)
    · have hr1 : 0 ≤ ru ∧ ru ≤ 4 := by split at c6 <;> omega
      have hw1 : 0 ≤ w ∧ w ≤ 3 := by split at c15 <;> omega
      have eV : duskV T S ru w = (if w = 0 then (dkR T S ru).2.1 else if w = 1 then (dkR T S ru).2.2 else if w = 2 then bset (homP (dkR T S ru).1) (tM T).toNat else bset (outP (dkR T S ru).1) (tM T).toNat) := by
        unfold duskV
        rw [if_pos ⟨hr1, hw1⟩]
      obtain ⟨hR, -⟩ := dkR_bd hT hI ru
      refine x_aload_0 dX13_dusk_20 ?_
      refine x_iload_1 dX13_dusk_21 ?_
      refine x_callV1 dX13_dusk_22 rfl okX13_duskBy q2165 q2167 qs107 (by first | assumption | (exact MdL.k0 (by assumption))) am_k13 rfl (C_X13_duskBy hC hT hI hq hr1 (fun h1 f1 r1 e64 e65 => (x_k0 ?_)))
      refine x_iload_2 dX13_dusk_25 ?_
      refine x_if_ne (tgt := 34) dX13_dusk_26 rfl (by omega) (fun c26 => ?_) (fun c26 => ?_)
      · refine x_iload_2 dX13_dusk_34 ?_
        refine x_iconst dX13_dusk_35 ?_
        refine x_icmp_ne (tgt := 44) dX13_dusk_36 rfl (by omega) (by omega) (fun c36 => ?_) (fun c36 => ?_)
        · refine x_iconst dX13_dusk_44 ?_
          refine x_istore_3 dX13_dusk_45 rfl ?_
          refine x_iconst dX13_dusk_46 ?_
          refine x_istore4 dX13_dusk_47 rfl ?_
          refine x_iconst dX13_dusk_49 ?_
          refine x_istore5 dX13_dusk_50 rfl ?_
          have hM1 := hM.fr f1
          have hlv := hM1.2.2.1
          have hmen := hM1.2.2.2.1
          generalize dkR T S ru = D at eV hR r1 e64 e65
          refine x_up0 (tM T) (fun i => 0 ≤ i → i ≤ tM T → am_X G mX13_dusk (d + 12) 52 [aR o, aI ru, aI w, aI (bset (homP D.1) i.toNat), aI (bset (outP D.1) i.toNat), aI i] [] L h1 Q) (fun i ih g0 g1 => ?_) 0 (by omega) h7.1
          have nxt : ∀ u v, i < tM T → u = bset (homP D.1) (i + 1).toNat → v = bset (outP D.1) (i + 1).toNat → am_X G mX13_dusk (d + 12) 52 [aR o, aI ru, aI w, aI u, aI v, aI (i + 1)] [] L h1 Q := fun u v z e e' => by rw [e, e']; exact ih z (by omega) (by omega)
          refine x_iload5 dX13_dusk_52 ?_
          refine x_aload_0 dX13_dusk_54 ?_
          refine x_getR dX13_dusk_55 fl1598_13 rfl (by first | (exact MdL.k0 (by assumption)) | (assumption)) (by first | (exact MdL.v_men (by assumption)) | (assumption)) ?_
          refine x_aload_0 dX13_dusk_58 ?_
          refine x_getI_ dX13_dusk_59 fl1592_13 (by first | (exact MdL.k0 (by assumption)) | (assumption)) (fun r59 => ?_)
          rw [hlv] at r59 ⊢
          refine x_iald_ dX13_dusk_62 (by first | (exact MdL.k_men (by assumption)) | (assumption)) (by first | (exact MdL.x_men (by assumption) (by omega) (by omega)) | (omega)) (fun r62 => ?_)
          rw [hmen] at r62 ⊢
          refine x_icmp_ge (tgt := 127) dX13_dusk_63 rfl (by omega) (by omega) (fun c63 => ?_) (fun c63 => ?_)
          · have ei : i = tM T := by omega
            subst ei
            refine x_iload_2 dX13_dusk_127 ?_
            refine x_iconst dX13_dusk_128 ?_
            refine x_icmp_ne (tgt := 136) dX13_dusk_129 rfl (by omega) (by omega) (fun c129 => ?_) (fun c129 => ?_)
            · refine x_iload4 dX13_dusk_136 ?_
              refine x_iret dX13_dusk_138 rfl ?_
              refine x_q1 ?_ (k h1 f1)
              rw [eV, if_neg (by omega), if_neg (by omega)]
              first | (rw [if_pos (by omega)]; done) | (rw [if_neg (by omega)]; done)
            · refine x_iload_3 dX13_dusk_132 ?_
              refine x_goto (tgt := 138) dX13_dusk_133 rfl ?_
              refine x_iret dX13_dusk_138 rfl ?_
              refine x_q1 ?_ (k h1 f1)
              rw [eV, if_neg (by omega), if_neg (by omega)]
              first | (rw [if_pos (by omega)]; done) | (rw [if_neg (by omega)]; done)
          · have hi : i < tM T := by omega
            obtain ⟨en, eb⟩ := r1.1 i g0 (by omega)
            have bn := hR.n60 hT i g0 (by omega)
            have b01 := bt_01 (rL D.1) i
            refine x_aload_0 dX13_dusk_66 ?_
            refine x_getR dX13_dusk_67 fl1630_13 rfl (by first | (exact MdL.k0 (by assumption)) | (assumption)) (by first | (exact MdL.v_row (by assumption)) | (assumption)) ?_
            refine x_bipush dX13_dusk_70 rfl ?_
            refine x_iload5 dX13_dusk_72 ?_
            refine x_iadd dX13_dusk_74 ?_
            refine x_iald_ dX13_dusk_75 (by first | (exact MdL.k_row (by assumption)) | (assumption)) (by first | (exact MdL.x_row (by assumption) (by omega) (by omega)) | (omega)) (fun r75 => ?_)
            simp (disch := omega) only [en, eb] at r75 ⊢
            refine x_if_ne (tgt := 99) dX13_dusk_76 rfl (by omega) (fun c76 => ?_) (fun c76 => ?_)
            · refine x_aload_0 dX13_dusk_99 ?_
              refine x_getR dX13_dusk_100 fl1630_13 rfl (by first | (exact MdL.k0 (by assumption)) | (assumption)) (by first | (exact MdL.v_row (by assumption)) | (assumption)) ?_
              refine x_bipush dX13_dusk_103 rfl ?_
              refine x_iload5 dX13_dusk_105 ?_
              refine x_iadd dX13_dusk_107 ?_
              refine x_iald_ dX13_dusk_108 (by first | (exact MdL.k_row (by assumption)) | (assumption)) (by first | (exact MdL.x_row (by assumption) (by omega) (by omega)) | (omega)) (fun r108 => ?_)
              simp (disch := omega) only [en, eb] at r108 ⊢
              refine x_if_le (tgt := 121) dX13_dusk_109 rfl (by omega) (fun c109 => ?_) (fun c109 => ?_)
              · refine x_iinc5 dX13_dusk_121 rfl ?_
                refine x_goto (tgt := 52) dX13_dusk_124 rfl ?_
                refine nxt _ _ hi ?_ ?_
                · rw [bset_s _ g0]
                  first
                  | (rw [if_pos (show homP D.1 i = true from decide_eq_true ⟨by omega, by omega⟩)]; done)
                  | (rw [if_neg (show ¬ homP D.1 i = true from fun z => by have := of_decide_eq_true z; omega)]; done)
                · rw [bset_s _ g0]
                  first
                  | (rw [if_pos (show outP D.1 i = true from decide_eq_true (by omega))]; done)
                  | (rw [if_neg (show ¬ outP D.1 i = true from fun z => by have := of_decide_eq_true z; omega)]; done)
              · refine x_iload4 dX13_dusk_112 ?_
                refine x_iconst dX13_dusk_114 ?_
                refine x_iload5 dX13_dusk_115 ?_
                refine x_ishl dX13_dusk_117 ?_
                refine x_ior dX13_dusk_118 ?_
                refine x_istore4 dX13_dusk_119 rfl ?_
                refine x_iinc5 dX13_dusk_121 rfl ?_
                refine x_goto (tgt := 52) dX13_dusk_124 rfl ?_
                refine nxt _ _ hi ?_ ?_
                · rw [bset_s _ g0]
                  first
                  | (rw [if_pos (show homP D.1 i = true from decide_eq_true ⟨by omega, by omega⟩)]; done)
                  | (rw [if_neg (show ¬ homP D.1 i = true from fun z => by have := of_decide_eq_true z; omega)]; done)
                · rw [bset_s _ g0]
                  first
                  | (rw [if_pos (show outP D.1 i = true from decide_eq_true (by omega))]; done)
                  | (rw [if_neg (show ¬ outP D.1 i = true from fun z => by have := of_decide_eq_true z; omega)]; done)
            · refine x_aload_0 dX13_dusk_79 ?_
              refine x_getR dX13_dusk_80 fl1630_13 rfl (by first | (exact MdL.k0 (by assumption)) | (assumption)) (by first | (exact MdL.v_row (by assumption)) | (assumption)) ?_
              refine x_bipush dX13_dusk_83 rfl ?_
              refine x_iload5 dX13_dusk_85 ?_
              refine x_iadd dX13_dusk_87 ?_
              refine x_iald_ dX13_dusk_88 (by first | (exact MdL.k_row (by assumption)) | (assumption)) (by first | (exact MdL.x_row (by assumption) (by omega) (by omega)) | (omega)) (fun r88 => ?_)
              simp (disch := omega) only [en, eb] at r88 ⊢
              refine x_if_ne (tgt := 99) dX13_dusk_89 rfl (by omega) (fun c89 => ?_) (fun c89 => ?_)
              · refine x_aload_0 dX13_dusk_99 ?_
                refine x_getR dX13_dusk_100 fl1630_13 rfl (by first | (exact MdL.k0 (by assumption)) | (assumption)) (by first | (exact MdL.v_row (by assumption)) | (assumption)) ?_
                refine x_bipush dX13_dusk_103 rfl ?_
                refine x_iload5 dX13_dusk_105 ?_
                refine x_iadd dX13_dusk_107 ?_
                refine x_iald_ dX13_dusk_108 (by first | (exact MdL.k_row (by assumption)) | (assumption)) (by first | (exact MdL.x_row (by assumption) (by omega) (by omega)) | (omega)) (fun r108 => ?_)
                simp (disch := omega) only [en, eb] at r108 ⊢
                refine x_if_le (tgt := 121) dX13_dusk_109 rfl (by omega) (fun c109 => ?_) (fun c109 => ?_)
                · refine x_iinc5 dX13_dusk_121 rfl ?_
                  refine x_goto (tgt := 52) dX13_dusk_124 rfl ?_
                  refine nxt _ _ hi ?_ ?_
                  · rw [bset_s _ g0]
                    first
                    | (rw [if_pos (show homP D.1 i = true from decide_eq_true ⟨by omega, by omega⟩)]; done)
                    | (rw [if_neg (show ¬ homP D.1 i = true from fun z => by have := of_decide_eq_true z; omega)]; done)
                  · rw [bset_s _ g0]
                    first
                    | (rw [if_pos (show outP D.1 i = true from decide_eq_true (by omega))]; done)
                    | (rw [if_neg (show ¬ outP D.1 i = true from fun z => by have := of_decide_eq_true z; omega)]; done)
                · refine x_iload4 dX13_dusk_112 ?_
                  refine x_iconst dX13_dusk_114 ?_
                  refine x_iload5 dX13_dusk_115 ?_
                  refine x_ishl dX13_dusk_117 ?_
                  refine x_ior dX13_dusk_118 ?_
                  refine x_istore4 dX13_dusk_119 rfl ?_
                  refine x_iinc5 dX13_dusk_121 rfl ?_
                  refine x_goto (tgt := 52) dX13_dusk_124 rfl ?_
                  refine nxt _ _ hi ?_ ?_
                  · rw [bset_s _ g0]
                    first
                    | (rw [if_pos (show homP D.1 i = true from decide_eq_true ⟨by omega, by omega⟩)]; done)
                    | (rw [if_neg (show ¬ homP D.1 i = true from fun z => by have := of_decide_eq_true z; omega)]; done)
                  · rw [bset_s _ g0]
                    first
                    | (rw [if_pos (show outP D.1 i = true from decide_eq_true (by omega))]; done)
                    | (rw [if_neg (show ¬ outP D.1 i = true from fun z => by have := of_decide_eq_true z; omega)]; done)
              · refine x_iload_3 dX13_dusk_92 ?_
                refine x_iconst dX13_dusk_93 ?_
                refine x_iload5 dX13_dusk_94 ?_
                refine x_ishl dX13_dusk_96 ?_
                refine x_ior dX13_dusk_97 ?_
                refine x_istore_3 dX13_dusk_98 rfl ?_
                refine x_aload_0 dX13_dusk_99 ?_
                refine x_getR dX13_dusk_100 fl1630_13 rfl (by first | (exact MdL.k0 (by assumption)) | (assumption)) (by first | (exact MdL.v_row (by assumption)) | (assumption)) ?_
                refine x_bipush dX13_dusk_103 rfl ?_
                refine x_iload5 dX13_dusk_105 ?_
                refine x_iadd dX13_dusk_107 ?_
                refine x_iald_ dX13_dusk_108 (by first | (exact MdL.k_row (by assumption)) | (assumption)) (by first | (exact MdL.x_row (by assumption) (by omega) (by omega)) | (omega)) (fun r108 => ?_)
                simp (disch := omega) only [en, eb] at r108 ⊢
                refine x_if_le (tgt := 121) dX13_dusk_109 rfl (by omega) (fun c109 => ?_) (fun c109 => ?_)
                · refine x_iinc5 dX13_dusk_121 rfl ?_
                  refine x_goto (tgt := 52) dX13_dusk_124 rfl ?_
                  refine nxt _ _ hi ?_ ?_
                  · rw [bset_s _ g0]
                    first
                    | (rw [if_pos (show homP D.1 i = true from decide_eq_true ⟨by omega, by omega⟩)]; done)
                    | (rw [if_neg (show ¬ homP D.1 i = true from fun z => by have := of_decide_eq_true z; omega)]; done)
                  · rw [bset_s _ g0]
                    first
                    | (rw [if_pos (show outP D.1 i = true from decide_eq_true (by omega))]; done)
                    | (rw [if_neg (show ¬ outP D.1 i = true from fun z => by have := of_decide_eq_true z; omega)]; done)
                · refine x_iload4 dX13_dusk_112 ?_
                  refine x_iconst dX13_dusk_114 ?_
                  refine x_iload5 dX13_dusk_115 ?_
                  refine x_ishl dX13_dusk_117 ?_
                  refine x_ior dX13_dusk_118 ?_
                  refine x_istore4 dX13_dusk_119 rfl ?_
                  refine x_iinc5 dX13_dusk_121 rfl ?_
                  refine x_goto (tgt := 52) dX13_dusk_124 rfl ?_
                  refine nxt _ _ hi ?_ ?_
                  · rw [bset_s _ g0]
                    first
                    | (rw [if_pos (show homP D.1 i = true from decide_eq_true ⟨by omega, by omega⟩)]; done)
                    | (rw [if_neg (show ¬ homP D.1 i = true from fun z => by have := of_decide_eq_true z; omega)]; done)
                  · rw [bset_s _ g0]
                    first
                    | (rw [if_pos (show outP D.1 i = true from decide_eq_true (by omega))]; done)
                    | (rw [if_neg (show ¬ outP D.1 i = true from fun z => by have := of_decide_eq_true z; omega)]; done)
        · refine x_aload_0 dX13_dusk_39 ?_
          refine x_getI_ dX13_dusk_40 fl1639_13 (by first | (exact MdL.k0 (by assumption)) | (assumption)) (fun r40 => ?_)
          rw [e65] at r40 ⊢
          refine x_iret dX13_dusk_43 rfl ?_
          refine x_q1 ?_ (k h1 f1)
          rw [eV, if_neg (by omega), if_pos (by omega)]
      · refine x_aload_0 dX13_dusk_29 ?_
        refine x_getI_ dX13_dusk_30 fl1638_13 (by first | (exact MdL.k0 (by assumption)) | (assumption)) (fun r30 => ?_)
        rw [e64] at r30 ⊢
        refine x_iret dX13_dusk_33 rfl ?_
        refine x_q1 ?_ (k h1 f1)
        rw [eV, if_pos (by omega)]
    · skip
      refine x_iconst dX13_dusk_18 ?_
      refine x_iret dX13_dusk_19 rfl ?_
      refine x_q1 ?_ (k h (FrW.rf h o))
      unfold duskV
      rw [if_neg (fun z => by obtain ⟨z1, z2⟩ := z; first | (rw [if_pos z1] at c6; omega) | (rw [if_pos z2] at c15; omega))]
set_option maxHeartbeats 4000000 in
theorem C_X13_bestDusk (hC : TwT L h o s T S) (hT : TxtI T) (hI : RowI T S b q) (hq : q ≤ 100000) (k : ∀ h', FrW h h' o → Q (.inl [aI (bestV T S)]) L h') : am_C G mX13_bestDusk (d + 12) [aR o] L h Q := by
  have hL := hC.ml
  refine x_start okX13_bestDusk rfl rfl rfl rfl ?_
  refine x_iconst dX13_bestDusk_0 ?_
  refine x_istore_1 dX13_bestDusk_1 rfl ?_
  refine x_iconst dX13_bestDusk_2 ?_
  refine x_istore_2 dX13_bestDusk_3 rfl ?_
  refine x_iconst dX13_bestDusk_4 ?_
  refine x_istore_3 dX13_bestDusk_5 rfl ?_
  refine x_iconst dX13_bestDusk_6 ?_
  refine x_istore4 dX13_bestDusk_7 rfl ?_
  skip
  refine x_for 5 (fun i hh => FrW h hh o) (fun i hh => am_X G mX13_bestDusk (d + 12) 9 [aR o, aI (bdI T S i.toNat).1, aI (bdI T S i.toNat).2.1, aI (bdI T S i.toNat).2.2, aI i] [] L hh Q) (fun i hh g0 g1 hP ih => ?_) h (by omega) (FrW.rf h o)
  have hC1 := hC.fr hP
  obtain ⟨b1, b2⟩ := bdI_bd hT hI i.toNat
  obtain ⟨-, b3, b4, b5⟩ := dkR_bd hT hI i
  have nxt : ∀ u v w hh, i < 5 → FrW h hh o → (u, v, w) = bdI T S (i + 1).toNat → am_X G mX13_bestDusk (d + 12) 9 [aR o, aI u, aI v, aI w, aI (i + 1)] [] L hh Q := fun u v w hh z z2 e => by
    have := ih hh z z2
    rw [← e] at this
    exact this
  refine x_iload4 dX13_bestDusk_9 ?_
  refine x_iconst dX13_bestDusk_11 ?_
  refine x_icmp_ge (tgt := 67) dX13_bestDusk_12 rfl (by omega) (by omega) (fun c12 => ?_) (fun c12 => ?_)
  · refine x_iload_1 dX13_bestDusk_67 ?_
    refine x_iret dX13_bestDusk_68 rfl ?_
    rw [show i = 5 by omega]
    exact k hh hP
  · refine x_aload_0 dX13_bestDusk_15 ?_
    refine x_iload4 dX13_bestDusk_16 ?_
    refine x_callV1 dX13_bestDusk_18 rfl okX13_duskBy q2165 q2167 qs107 (by first | assumption | (exact MdL.k0 (by assumption))) am_k13 rfl (C_X13_duskBy hC1 hT hI hq ⟨g0, by omega⟩ (fun h1 f1 r1 e64 e65 => (x_k0 ?_)))
    refine x_aload_0 dX13_bestDusk_21 ?_
    refine x_getI_ dX13_bestDusk_22 fl1639_13 (by first | (exact MdL.k0 (by assumption)) | (assumption)) (fun r22 => ?_)
    rw [e65] at r22 ⊢
    refine x_iload_2 dX13_bestDusk_25 ?_
    refine x_icmp_lt (tgt := 61) dX13_bestDusk_26 rfl (by omega) (by omega) (fun c26 => ?_) (fun c26 => ?_)
    · refine x_iinc4 dX13_bestDusk_61 rfl ?_
      refine x_goto (tgt := 9) dX13_bestDusk_64 rfl ?_
      refine nxt _ _ _ h1 (by omega) (hP.tr f1) ?_
      rw [bdI_s g0]
      first
      | (rw [if_pos (by omega)]; done)
      | (rw [if_neg (by omega)]; done)
    · refine x_aload_0 dX13_bestDusk_29 ?_
      refine x_getI_ dX13_bestDusk_30 fl1639_13 (by first | (exact MdL.k0 (by assumption)) | (assumption)) (fun r30 => ?_)
      rw [e65] at r30 ⊢
      refine x_iload_2 dX13_bestDusk_33 ?_
      refine x_icmp_ne (tgt := 48) dX13_bestDusk_34 rfl (by omega) (by omega) (fun c34 => ?_) (fun c34 => ?_)
      · refine x_iload4 dX13_bestDusk_48 ?_
        refine x_istore_1 dX13_bestDusk_50 rfl ?_
        refine x_aload_0 dX13_bestDusk_51 ?_
        refine x_getI_ dX13_bestDusk_52 fl1639_13 (by first | (exact MdL.k0 (by assumption)) | (assumption)) (fun r52 => ?_)
        rw [e65] at r52 ⊢
        refine x_istore_2 dX13_bestDusk_55 rfl ?_
        refine x_aload_0 dX13_bestDusk_56 ?_
        refine x_getI_ dX13_bestDusk_57 fl1638_13 (by first | (exact MdL.k0 (by assumption)) | (assumption)) (fun r57 => ?_)
        rw [e64] at r57 ⊢
        refine x_istore_3 dX13_bestDusk_60 rfl ?_
        refine x_iinc4 dX13_bestDusk_61 rfl ?_
        refine x_goto (tgt := 9) dX13_bestDusk_64 rfl ?_
        refine nxt _ _ _ h1 (by omega) (hP.tr f1) ?_
        rw [bdI_s g0]
        first
        | (rw [if_pos (by omega)]; done)
        | (rw [if_neg (by omega)]; done)
      · refine x_aload_0 dX13_bestDusk_37 ?_
        refine x_getI_ dX13_bestDusk_38 fl1638_13 (by first | (exact MdL.k0 (by assumption)) | (assumption)) (fun r38 => ?_)
        rw [e64] at r38 ⊢
        refine x_iload_3 dX13_bestDusk_41 ?_
        refine x_icmp_lt (tgt := 48) dX13_bestDusk_42 rfl (by omega) (by omega) (fun c42 => ?_) (fun c42 => ?_)
        · refine x_iload4 dX13_bestDusk_48 ?_
          refine x_istore_1 dX13_bestDusk_50 rfl ?_
          refine x_aload_0 dX13_bestDusk_51 ?_
          refine x_getI_ dX13_bestDusk_52 fl1639_13 (by first | (exact MdL.k0 (by assumption)) | (assumption)) (fun r52 => ?_)
          rw [e65] at r52 ⊢
          refine x_istore_2 dX13_bestDusk_55 rfl ?_
          refine x_aload_0 dX13_bestDusk_56 ?_
          refine x_getI_ dX13_bestDusk_57 fl1638_13 (by first | (exact MdL.k0 (by assumption)) | (assumption)) (fun r57 => ?_)
          rw [e64] at r57 ⊢
          refine x_istore_3 dX13_bestDusk_60 rfl ?_
          refine x_iinc4 dX13_bestDusk_61 rfl ?_
          refine x_goto (tgt := 9) dX13_bestDusk_64 rfl ?_
          refine nxt _ _ _ h1 (by omega) (hP.tr f1) ?_
          rw [bdI_s g0]
          first
          | (rw [if_pos (by omega)]; done)
          | (rw [if_neg (by omega)]; done)
        · refine x_goto (tgt := 61) dX13_bestDusk_45 rfl ?_
          refine x_iinc4 dX13_bestDusk_61 rfl ?_
          refine x_goto (tgt := 9) dX13_bestDusk_64 rfl ?_
          refine nxt _ _ _ h1 (by omega) (hP.tr f1) ?_
          rw [bdI_s g0]
          first
          | (rw [if_pos (by omega)]; done)
          | (rw [if_neg (by omega)]; done)
end MDUSK
