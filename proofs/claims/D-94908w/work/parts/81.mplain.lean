/-! A PLAIN DAY: the twin's side -/
set_option maxRecDepth 100000
theorem sI_s2 {a : Int} (h : 0 ≤ a ∧ a < 288) : sI (s2 a) = a := by
  unfold sI s2
  split <;> omega
section MPLAIN
variable {G : am_G} {d : Nat} {L : am_L} {h h' : am_H} {Q : am_O → am_L → am_H → Prop} {x o s t : Int} {T : Txt} {S : Row} {b q : Int}
/-- what walks keep: the text, the best order, what else is laid -/
def wkP (T : Txt) (h hh : am_H) (o m w : Int) : Prop := FrW h hh o ∧ (∀ i, 0 ≤ i → i < tE T m → hh (o + 44) i = lf (wyL T m) i) ∧ ∀ i, (i < w ∨ w + 288 ≤ i) → hh (o + 46) i = h (o + 46) i
theorem wkP.st {hh : am_H} {m w i v : Int} (r : wkP T h hh o m w) (hi : w ≤ i ∧ i < w + 288) : wkP T h (am_st hh (o + 46) i v) o m w := by
  obtain ⟨r1, r2, r3⟩ := r
  refine ⟨r1.tr (FrW.arr (by omega)), fun j z0 z1 => by rw [am_st_o (by omega)]; exact r2 j z0 z1, fun j z => ?_⟩
  rw [am_st_i (by omega)]
  exact r3 j z
set_option maxHeartbeats 16000000 in
theorem C_X13_walks {m c : Int} (hM : MdT L h o s T) (hT : TxtI T) (hm : 0 ≤ m ∧ m < tM T) (hc : 0 ≤ c ∧ c < 2) (k : ∀ h', FrW h h' o → (∀ y, 0 ≤ y → y < 288 → h' (o + 46) (288 * (2 * m + c) + y) = plC T m c (sI y)) → (∀ i, (i < 288 * (2 * m + c) ∨ 288 * (2 * m + c) + 288 ≤ i) → h' (o + 46) i = h (o + 46) i) → Q (.inl []) L h') : am_C G mX13_walks (d + 6) [aR o, aI m, aI c] L h Q := by
  have hL := hM.1
  have hs := hM.2.1
  have h7 := hT.1
  have hd := dor_in hT hm
  have hE := (erd_n hT hm).1
  obtain ⟨l1, l2⟩ := wyL_ok hT hm
  obtain ⟨-, pb⟩ := plC_bd hT hm c
  have wb : 0 ≤ 288 * (2 * m + c) ∧ 288 * (2 * m + c) + 288 ≤ 4032 := by omega
  refine x_start okX13_walks rfl rfl rfl rfl ?_
  refine x_sipush dX13_walks_0 rfl ?_
  refine x_iconst dX13_walks_3 ?_
  refine x_iload_1 dX13_walks_4 ?_
  refine x_imul dX13_walks_5 ?_
  refine x_iload_2 dX13_walks_6 ?_
  refine x_iadd dX13_walks_7 ?_
  refine x_imul dX13_walks_8 ?_
  refine x_istore_3 dX13_walks_9 rfl ?_
  refine x_iconst dX13_walks_10 ?_
  refine x_istore4 dX13_walks_11 rfl ?_
  skip
  generalize hw : 288 * (2 * m + c) = w at wb k ⊢
  refine x_for 288 (fun i hh => (∀ a, a ≠ (o + 46) → hh a = h a) ∧ (∀ j, (j < w ∨ w + 288 ≤ j) → hh (o + 46) j = h (o + 46) j) ∧ ∀ y, 0 ≤ y → y < i → hh (o + 46) (w + y) = 0) (fun i hh => am_X G mX13_walks (d + 6) 13 [aR o, aI m, aI c, aI w, aI i, aU, aU, aU, aU, aU, aU] [] L hh Q) (fun i hh g0 g1 hP ih => ?_) h (by omega) ⟨fun _ _ => rfl, fun _ _ => rfl, fun y z0 z1 => by omega⟩
  obtain ⟨p1, p2, p3⟩ := hP
  have f1 : FrW h hh o := fun a i z => by rw [p1 a (by omega)]
  have hM1 := hM.fr f1
  refine x_iload4 dX13_walks_13 ?_
  refine x_sipush dX13_walks_15 rfl ?_
  refine x_icmp_ge (tgt := 37) dX13_walks_18 rfl (by omega) (by omega) (fun c18 => ?_) (fun c18 => ?_)
  · refine x_aload_0 dX13_walks_37 ?_
    refine x_iload_1 dX13_walks_38 ?_
    refine x_callV1 dX13_walks_39 rfl okX13_wayOf q2077 q2079 qs98 (by first | assumption | (exact MdL.k0 (by assumption))) am_k13 rfl (C_X13_wayOf hM1 hT hm (fun h1 f2 b1 => (x_k1 ?_)))
    refine x_pop dX13_walks_42 rfl ?_
    have ei : i = 288 := by omega
    rw [ei] at p3
    have hl1 : h1 (o + 46) = hh (o + 46) := f2 _ (by omega) (by omega)
    have W0 : wkP T h h1 o m w := ⟨f1.tr f2.w, b1, fun j z => by rw [hl1]; exact p2 j z⟩
    have hM2 := hM1.fr f2.w
    have hlv2 := hM2.2.2.1
    obtain ⟨edx, edy, -⟩ := hM2.2.2.2.2.2.2.2.2.1 m hm.1 hm.2
    have H78 : ∀ (r : List Int) (j : Nat) (u v : Int) (h2 : am_H) (w7 w8 w9 w10 : AV), (wyL T m).drop j = r → j + r.length = (wyL T m).length → (0 ≤ u ∧ u ≤ 11) → (0 ≤ v ∧ v ≤ 11) → wkP T h h2 o m w → (∀ y, 0 ≤ y → y < 288 → 0 ≤ h2 (o + 46) (w + y) ∧ h2 (o + 46) (w + y) + manC (tEX T m) (tEY T m) c (sI y) r u v = plC T m c (sI y)) → am_X G mX13_walks (d + 6) 78 [aR o, aI m, aI c, aI w, aI u, aI v, aI (j : Int), w7, w8, w9, w10] [] L h2 Q := by
      intro r
      induction r with
      | nil =>
        intro j u v h2 w7 w8 w9 w10 z1 z2 z3 z4 z5 z6
        have z2' : j = (wyL T m).length := z2
        have hM3 := hM.fr z5.1
        have hlv3 := hM3.2.2.1
        have ee := (hM3.2.2.2.2.2.2.2.2.1 m hm.1 hm.2).2.2.2.1
        refine x_iload6 dX13_walks_78 ?_
        refine x_aload_0 dX13_walks_80 ?_
        refine x_getR dX13_walks_81 fl1602_13 rfl (by first | (exact MdL.k0 (by assumption)) | (assumption)) (by first | (exact MdL.v_errands (by assumption)) | (assumption)) ?_
        refine x_bipush dX13_walks_84 rfl ?_
        refine x_aload_0 dX13_walks_86 ?_
        refine x_getI_ dX13_walks_87 fl1592_13 (by first | (exact MdL.k0 (by assumption)) | (assumption)) (fun r87 => ?_)
        rw [hlv3] at r87 ⊢
        refine x_imul dX13_walks_90 ?_
        refine x_iload_1 dX13_walks_91 ?_
        refine x_iadd dX13_walks_92 ?_
        refine x_iald_ dX13_walks_93 (by first | (exact MdL.k_errands (by assumption)) | (assumption)) (by first | (exact MdL.x_errands (by assumption) (by omega) (by omega)) | (omega)) (fun r93 => ?_)
        rw [ee] at r93 ⊢
        refine x_icmp_ge (tgt := 272) dX13_walks_94 rfl (by omega) (by omega) (fun c94 => ?_) (fun c94 => ?_)
        · refine x_ret dX13_walks_272 rfl ?_
          refine k h2 z5.1 (fun y y0 y1 => ?_) z5.2.2
          have := (z6 y y0 y1).2
          have e : manC (tEX T m) (tEY T m) c (sI y) [] u v = 0 := rfl
          omega
        · exfalso; omega
      | cons y r ihr =>
        intro j u v h2 w7 w8 w9 w10 z1 z2 z3 z4 z5 z6
        have z2' : j + r.length + 1 = (wyL T m).length := by rw [← z2, List.length_cons]; omega
        have hj : j < (wyL T m).length := by omega
        have hy : lf (wyL T m) (j : Int) = y := by
          unfold lf
          rw [List.getD_eq_getElem?_getD]
          have := List.getElem?_drop (xs := wyL T m) (i := j) (j := 0)
          rw [z1, Nat.add_zero] at this
          rw [show ((j : Nat) : Int).toNat = j by omega, ← this]
          rfl
        have hdr : (wyL T m).drop (j + 1) = r := by
          have := congrArg (List.drop 1) z1
          rw [List.drop_drop] at this
          exact this
        have hym : 0 ≤ y ∧ y < tE T m := l2 y (by
          have : y ∈ (wyL T m).drop j := by rw [z1]; exact List.mem_cons_self ..
          exact List.mem_of_mem_drop this)
        obtain ⟨bx, by_⟩ := erd_in hT hm hym
        have exy : ∀ h3, wkP T h h3 o m w → h3 o 18 = s ∧ h3 (o + 16) (42 * s + 6 * m + y) = tEX T m y ∧ h3 (o + 17) (42 * s + 6 * m + y) = tEY T m y := fun h3 r3 => by
          have hM3 := hM.fr r3.1
          obtain ⟨-, -, -, -, a5, -⟩ := hM3.2.2.2.2.2.2.2.2.1 m hm.1 hm.2
          exact ⟨hM3.2.2.1, a5 y hym.1 hym.2⟩
        have mC : ∀ s', manC (tEX T m) (tEY T m) c s' (y :: r) u v = (lgC (if u < tEX T m y then 2 else 4) s' (apa u (tEX T m y)).toNat u (if c = 0 then v else tEY T m y) + lgC (if v < tEY T m y then 1 else 3) s' (apa v (tEY T m y)).toNat (if c = 0 then tEX T m y else u) v) + manC (tEX T m) (tEY T m) c s' r (tEX T m y) (tEY T m y) := fun s' => rfl
        have nx := fun h5 w7 w8 w9 w10 => ihr (j + 1) (tEX T m y) (tEY T m y) h5 w7 w8 w9 w10 hdr (by omega) bx by_
        generalize hto : 42 * s + 6 * m + y = to at exy
        have mN := fun s' => manC_nn (tEX T m) (tEY T m) c s' r (tEX T m y) (tEY T m y)
        generalize tEX T m y = eu at bx mC nx exy mN
        generalize tEY T m y = ev at by_ mC nx exy mN
        have tob : 0 ≤ to ∧ to < 84 := by omega
        have LX : ∀ (tn cy : Int) (RE : Int → Int), (0 ≤ cy ∧ cy ≤ 11) → (∀ a, 0 ≤ RE a) → (∀ (h4 : am_H) (w10 : AV), wkP T h h4 o m w → (∀ y, 0 ≤ y → y < 288 → 0 ≤ h4 (o + 46) (w + y) ∧ h4 (o + 46) (w + y) + RE (sI y) = plC T m c (sI y)) → am_X G mX13_walks (d + 6) 260 [aR o, aI m, aI c, aI w, aI eu, aI cy, aI (j : Int), aI to, aI tn, aI 0, w10] [] L h4 Q) →
            ∀ (r2 : Nat) (cx : Int) (h3 : am_H) (w10 : AV), apa cx eu = r2 → (0 ≤ cx ∧ cx ≤ 11) → wkP T h h3 o m w → (∀ y, 0 ≤ y → y < 288 → 0 ≤ h3 (o + 46) (w + y) ∧ h3 (o + 46) (w + y) + (lgC (if cx < eu then 2 else 4) (sI y) r2 cx cy + RE (sI y)) = plC T m c (sI y)) → am_X G mX13_walks (d + 6) 141 [aR o, aI m, aI c, aI w, aI cx, aI cy, aI (j : Int), aI to, aI tn, aI 0, w10] [] L h3 Q := by
          intro tn cy RE hcy hRE kk r2
          induction r2 with
          | zero =>
            intro cx h3 w10 q1 q2 q3 q4
            obtain ⟨hlv3, ex3, ey3⟩ := exy h3 q3
            have ec : cx = eu := by unfold apa at q1; split at q1 <;> omega
            refine x_iload9 dX13_walks_141 ?_
            refine x_if_eq (tgt := 161) dX13_walks_143 rfl (by omega) (fun c143 => ?_) (fun c143 => absurd rfl c143)
            refine x_iload4 dX13_walks_161 ?_
            refine x_aload_0 dX13_walks_163 ?_
            refine x_getR dX13_walks_164 fl1603_13 rfl (by first | (exact MdL.k0 (by assumption)) | (assumption)) (by first | (exact MdL.v_errandX (by assumption)) | (assumption)) ?_
            refine x_iload7 dX13_walks_167 ?_
            refine x_iald_ dX13_walks_169 (by first | (exact MdL.k_errandX (by assumption)) | (assumption)) (by first | (exact MdL.x_errandX (by assumption) (by omega) (by omega)) | (omega)) (fun r169 => ?_)
            rw [ex3] at r169 ⊢
            refine x_icmp_eq (tgt := 260) dX13_walks_170 rfl (by omega) (by omega) (fun c170 => ?_) (fun c170 => ?_)
            · rw [ec]
              refine kk h3 w10 q3 (fun y y0 y1 => ?_)
              have := q4 y y0 y1
              have e : lgC (if cx < eu then 2 else 4) (sI y) 0 cx cy = 0 := rfl
              omega
            · exfalso; omega
          | succ r2 ih2 =>
            intro cx h3 w10 q1 q2 q3 q4
            obtain ⟨hlv3, ex3, ey3⟩ := exy h3 q3
            have hne : cx ≠ eu := fun e => by rw [e] at q1; unfold apa at q1; rw [if_neg (by omega)] at q1; omega
            have fin : ∀ wy : Int, wy = (if cx < eu then 2 else 4) → am_X G mX13_walks (d + 6) 215 [aR o, aI m, aI c, aI w, aI cx, aI cy, aI (j : Int), aI to, aI tn, aI 0, w10] [aI wy] L h3 Q := fun wy ewy => by
              have lg : legOk wy (apa cx eu) cx cy := by
                rw [ewy]
                unfold legOk apa
                (repeat' split) <;> omega
              obtain ⟨st, lg2⟩ := lg.st (by omega)
              have sb := s2_bd st
              have ss := sI_s2 st
              have hz := q4 _ sb.1 sb.2
              rw [ss] at hz
              have hz2 := pb _ st.1 st.2
              have hz3 := (lgC_bd (if cx < eu then 2 else 4) (stO cx cy wy) (r2 + 1) cx cy).1
              have hz4 := hRE (stO cx cy wy)
              have hw4 : 1 ≤ wy ∧ wy ≤ 4 := by rw [ewy]; split <;> omega
              have dd : (cx < eu → wy = 2 ∧ dX wy = 1 ∧ dY wy = 0) ∧ (¬ cx < eu → wy = 4 ∧ dX wy = -1 ∧ dY wy = 0) := by
                rw [ewy]
                refine ⟨fun z => by rw [if_pos z]; exact ⟨rfl, rfl, rfl⟩, fun z => by rw [if_neg z]; exact ⟨rfl, rfl, rfl⟩⟩
              refine x_istore10 dX13_walks_215 rfl ?_
              refine x_aload_0 dX13_walks_217 ?_
              refine x_getR dX13_walks_218 fl1641_13 rfl (by first | (exact MdL.k0 (by assumption)) | (assumption)) (by first | (exact MdL.v_laid (by assumption)) | (assumption)) ?_
              refine x_iload_3 dX13_walks_221 ?_
              refine x_iload4 dX13_walks_222 ?_
              refine x_iload5 dX13_walks_224 ?_
              refine x_iload10 dX13_walks_226 ?_
              refine x_callS3 dX13_walks_228 rfl okX13_streetOf q1994 q1995 rfl (C_X13_streetOf (x := cx) (y := cy) q2 hcy hw4 (x_k1 ?_))
              refine x_iadd dX13_walks_231 ?_
              refine x_dup2 dX13_walks_232 rfl rfl ?_
              refine x_iald_ dX13_walks_233 (by first | (exact MdL.k_laid (by assumption)) | (assumption)) (by first | (exact MdL.x_laid (by assumption) (by omega) (by omega)) | (omega)) (fun r233 => ?_)
              refine x_iconst dX13_walks_234 ?_
              refine x_iadd dX13_walks_235 ?_
              refine x_iast_ dX13_walks_236 (by first | (exact MdL.k_laid (by assumption)) | (assumption)) (by first | (exact MdL.x_laid (by assumption) (by omega) (by omega)) | (omega)) (by omega) ?_
              refine x_iload4 dX13_walks_237 ?_
              refine x_iload10 dX13_walks_239 ?_
              refine x_callS1 dX13_walks_241 rfl okX13_dx q1984 q1985 rfl (C_X13_dx ⟨by omega, by omega⟩ (x_k1 ?_))
              refine x_iadd dX13_walks_244 ?_
              refine x_istore4 dX13_walks_245 rfl ?_
              refine x_iload5 dX13_walks_247 ?_
              refine x_iload10 dX13_walks_249 ?_
              refine x_callS1 dX13_walks_251 rfl okX13_dy q1987 q1988 rfl (C_X13_dy ⟨by omega, by omega⟩ (x_k1 ?_))
              refine x_iadd dX13_walks_254 ?_
              refine x_istore5 dX13_walks_255 rfl ?_
              refine x_goto (tgt := 141) dX13_walks_257 rfl ?_
              have e0 : cy + dY wy = cy := by omega
              rw [e0]
              rw [e0] at lg2
              have lgs : ∀ s', lgC (if cx < eu then 2 else 4) s' (r2 + 1) cx cy = (if stO cx cy wy = s' then 1 else 0) + lgC wy s' r2 (cx + dX wy) cy := fun s' => by
                have e : lgC wy s' (r2 + 1) cx cy = (if stO cx cy wy = s' then 1 else 0) + lgC wy s' r2 (cx + dX wy) (cy + dY wy) := rfl
                rw [e0] at e
                rw [← ewy, e]
              have lgw : ∀ s', lgC wy s' r2 (cx + dX wy) cy = lgC (if cx + dX wy < eu then 2 else 4) s' r2 (cx + dX wy) cy := fun s' => by
                by_cases er : r2 = 0
                · rw [er]
                  rfl
                · by_cases el : cx < eu
                  · have d1 := dd.1 el
                    rw [if_pos (by unfold apa at q1; rw [if_pos el] at q1; omega), d1.1]
                  · have d1 := dd.2 el
                    rw [if_neg (by omega), d1.1]
              refine ih2 (cx + dX wy) _ _ ?_ lg2.1.1 (q3.st (by omega)) (fun y y0 y1 => ?_)
              · unfold apa at q1 ⊢
                by_cases el : cx < eu
                · have d1 := dd.1 el
                  rw [if_pos el] at q1
                  split <;> omega
                · have d1 := dd.2 el
                  rw [if_neg el] at q1
                  split <;> omega
              · have g1 := q4 y y0 y1
                have g2 := lgs (sI y)
                rw [← lgw, am_st_at]
                by_cases es : y = s2 (stO cx cy wy)
                · have es2 : stO cx cy wy = sI y := by rw [es, ss]
                  rw [if_pos es2] at g2
                  rw [if_pos ⟨rfl, by omega⟩, ← es]
                  omega
                · have es2 : ¬ stO cx cy wy = sI y := fun z => es (by rw [z]; exact (s2_sI ⟨y0, y1⟩).1.symm)
                  rw [if_neg es2] at g2
                  rw [if_neg (by omega)]
                  omega
            refine x_iload9 dX13_walks_141 ?_
            refine x_if_eq (tgt := 161) dX13_walks_143 rfl (by omega) (fun c143 => ?_) (fun c143 => absurd rfl c143)
            refine x_iload4 dX13_walks_161 ?_
            refine x_aload_0 dX13_walks_163 ?_
            refine x_getR dX13_walks_164 fl1603_13 rfl (by first | (exact MdL.k0 (by assumption)) | (assumption)) (by first | (exact MdL.v_errandX (by assumption)) | (assumption)) ?_
            refine x_iload7 dX13_walks_167 ?_
            refine x_iald_ dX13_walks_169 (by first | (exact MdL.k_errandX (by assumption)) | (assumption)) (by first | (exact MdL.x_errandX (by assumption) (by omega) (by omega)) | (omega)) (fun r169 => ?_)
            rw [ex3] at r169 ⊢
            refine x_icmp_eq (tgt := 260) dX13_walks_170 rfl (by omega) (by omega) (fun c170 => ?_) (fun c170 => ?_)
            · exfalso; omega
            · refine x_iload9 dX13_walks_173 ?_
              refine x_if_eq (tgt := 198) dX13_walks_175 rfl (by omega) (fun c175 => ?_) (fun c175 => ?_)
              · refine x_iload4 dX13_walks_198 ?_
                refine x_aload_0 dX13_walks_200 ?_
                refine x_getR dX13_walks_201 fl1603_13 rfl (by first | (exact MdL.k0 (by assumption)) | (assumption)) (by first | (exact MdL.v_errandX (by assumption)) | (assumption)) ?_
                refine x_iload7 dX13_walks_204 ?_
                refine x_iald_ dX13_walks_206 (by first | (exact MdL.k_errandX (by assumption)) | (assumption)) (by first | (exact MdL.x_errandX (by assumption) (by omega) (by omega)) | (omega)) (fun r206 => ?_)
                rw [ex3] at r206 ⊢
                refine x_icmp_ge (tgt := 214) dX13_walks_207 rfl (by omega) (by omega) (fun c207 => ?_) (fun c207 => ?_)
                · refine x_iconst dX13_walks_214 ?_
                  exact fin _ (by first | (rw [if_pos (by omega)]; done) | (rw [if_neg (by omega)]; done))
                · refine x_iconst dX13_walks_210 ?_
                  refine x_goto (tgt := 215) dX13_walks_211 rfl ?_
                  exact fin _ (by first | (rw [if_pos (by omega)]; done) | (rw [if_neg (by omega)]; done))
              · exfalso; exact absurd rfl c175
        have LY : ∀ (tn cx : Int) (RE : Int → Int), (0 ≤ cx ∧ cx ≤ 11) → (∀ a, 0 ≤ RE a) → (∀ (h4 : am_H) (w10 : AV), wkP T h h4 o m w → (∀ y, 0 ≤ y → y < 288 → 0 ≤ h4 (o + 46) (w + y) ∧ h4 (o + 46) (w + y) + RE (sI y) = plC T m c (sI y)) → am_X G mX13_walks (d + 6) 260 [aR o, aI m, aI c, aI w, aI cx, aI ev, aI (j : Int), aI to, aI tn, aI 1, w10] [] L h4 Q) →
            ∀ (r2 : Nat) (cy : Int) (h3 : am_H) (w10 : AV), apa cy ev = r2 → (0 ≤ cy ∧ cy ≤ 11) → wkP T h h3 o m w → (∀ y, 0 ≤ y → y < 288 → 0 ≤ h3 (o + 46) (w + y) ∧ h3 (o + 46) (w + y) + (lgC (if cy < ev then 1 else 3) (sI y) r2 cx cy + RE (sI y)) = plC T m c (sI y)) → am_X G mX13_walks (d + 6) 141 [aR o, aI m, aI c, aI w, aI cx, aI cy, aI (j : Int), aI to, aI tn, aI 1, w10] [] L h3 Q := by
          intro tn cx RE hcx hRE kk r2
          induction r2 with
          | zero =>
            intro cy h3 w10 q1 q2 q3 q4
            obtain ⟨hlv3, ex3, ey3⟩ := exy h3 q3
            have ec : cy = ev := by unfold apa at q1; split at q1 <;> omega
            refine x_iload9 dX13_walks_141 ?_
            refine x_if_eq (tgt := 161) dX13_walks_143 rfl (by omega) (fun c143 => absurd c143 (by decide)) (fun c143 => ?_)
            refine x_iload5 dX13_walks_146 ?_
            refine x_aload_0 dX13_walks_148 ?_
            refine x_getR dX13_walks_149 fl1604_13 rfl (by first | (exact MdL.k0 (by assumption)) | (assumption)) (by first | (exact MdL.v_errandY (by assumption)) | (assumption)) ?_
            refine x_iload7 dX13_walks_152 ?_
            refine x_iald_ dX13_walks_154 (by first | (exact MdL.k_errandY (by assumption)) | (assumption)) (by first | (exact MdL.x_errandY (by assumption) (by omega) (by omega)) | (omega)) (fun r154 => ?_)
            rw [ey3] at r154 ⊢
            refine x_icmp_eq (tgt := 260) dX13_walks_155 rfl (by omega) (by omega) (fun c155 => ?_) (fun c155 => ?_)
            · rw [ec]
              refine kk h3 w10 q3 (fun y y0 y1 => ?_)
              have := q4 y y0 y1
              have e : lgC (if cy < ev then 1 else 3) (sI y) 0 cx cy = 0 := rfl
              omega
            · refine x_goto (tgt := 173) dX13_walks_158 rfl ?_
              exfalso; omega
          | succ r2 ih2 =>
            intro cy h3 w10 q1 q2 q3 q4
            obtain ⟨hlv3, ex3, ey3⟩ := exy h3 q3
            have hne : cy ≠ ev := fun e => by rw [e] at q1; unfold apa at q1; rw [if_neg (by omega)] at q1; omega
            have fin : ∀ wy : Int, wy = (if cy < ev then 1 else 3) → am_X G mX13_walks (d + 6) 215 [aR o, aI m, aI c, aI w, aI cx, aI cy, aI (j : Int), aI to, aI tn, aI 1, w10] [aI wy] L h3 Q := fun wy ewy => by
              have lg : legOk wy (apa cy ev) cx cy := by
                rw [ewy]
                unfold legOk apa
                (repeat' split) <;> omega
              obtain ⟨st, lg2⟩ := lg.st (by omega)
              have sb := s2_bd st
              have ss := sI_s2 st
              have hz := q4 _ sb.1 sb.2
              rw [ss] at hz
              have hz2 := pb _ st.1 st.2
              have hz3 := (lgC_bd (if cy < ev then 1 else 3) (stO cx cy wy) (r2 + 1) cx cy).1
              have hz4 := hRE (stO cx cy wy)
              have hw4 : 1 ≤ wy ∧ wy ≤ 4 := by rw [ewy]; split <;> omega
              have dd : (cy < ev → wy = 1 ∧ dY wy = 1 ∧ dX wy = 0) ∧ (¬ cy < ev → wy = 3 ∧ dY wy = -1 ∧ dX wy = 0) := by
                rw [ewy]
                refine ⟨fun z => by rw [if_pos z]; exact ⟨rfl, rfl, rfl⟩, fun z => by rw [if_neg z]; exact ⟨rfl, rfl, rfl⟩⟩
              refine x_istore10 dX13_walks_215 rfl ?_
              refine x_aload_0 dX13_walks_217 ?_
              refine x_getR dX13_walks_218 fl1641_13 rfl (by first | (exact MdL.k0 (by assumption)) | (assumption)) (by first | (exact MdL.v_laid (by assumption)) | (assumption)) ?_
              refine x_iload_3 dX13_walks_221 ?_
              refine x_iload4 dX13_walks_222 ?_
              refine x_iload5 dX13_walks_224 ?_
              refine x_iload10 dX13_walks_226 ?_
              refine x_callS3 dX13_walks_228 rfl okX13_streetOf q1994 q1995 rfl (C_X13_streetOf (x := cx) (y := cy) hcx q2 hw4 (x_k1 ?_))
              refine x_iadd dX13_walks_231 ?_
              refine x_dup2 dX13_walks_232 rfl rfl ?_
              refine x_iald_ dX13_walks_233 (by first | (exact MdL.k_laid (by assumption)) | (assumption)) (by first | (exact MdL.x_laid (by assumption) (by omega) (by omega)) | (omega)) (fun r233 => ?_)
              refine x_iconst dX13_walks_234 ?_
              refine x_iadd dX13_walks_235 ?_
              refine x_iast_ dX13_walks_236 (by first | (exact MdL.k_laid (by assumption)) | (assumption)) (by first | (exact MdL.x_laid (by assumption) (by omega) (by omega)) | (omega)) (by omega) ?_
              refine x_iload4 dX13_walks_237 ?_
              refine x_iload10 dX13_walks_239 ?_
              refine x_callS1 dX13_walks_241 rfl okX13_dx q1984 q1985 rfl (C_X13_dx ⟨by omega, by omega⟩ (x_k1 ?_))
              refine x_iadd dX13_walks_244 ?_
              refine x_istore4 dX13_walks_245 rfl ?_
              refine x_iload5 dX13_walks_247 ?_
              refine x_iload10 dX13_walks_249 ?_
              refine x_callS1 dX13_walks_251 rfl okX13_dy q1987 q1988 rfl (C_X13_dy ⟨by omega, by omega⟩ (x_k1 ?_))
              refine x_iadd dX13_walks_254 ?_
              refine x_istore5 dX13_walks_255 rfl ?_
              refine x_goto (tgt := 141) dX13_walks_257 rfl ?_
              have e0 : cx + dX wy = cx := by omega
              rw [e0]
              rw [e0] at lg2
              have lgs : ∀ s', lgC (if cy < ev then 1 else 3) s' (r2 + 1) cx cy = (if stO cx cy wy = s' then 1 else 0) + lgC wy s' r2 cx (cy + dY wy) := fun s' => by
                have e : lgC wy s' (r2 + 1) cx cy = (if stO cx cy wy = s' then 1 else 0) + lgC wy s' r2 (cx + dX wy) (cy + dY wy) := rfl
                rw [e0] at e
                rw [← ewy, e]
              have lgw : ∀ s', lgC wy s' r2 cx (cy + dY wy) = lgC (if cy + dY wy < ev then 1 else 3) s' r2 cx (cy + dY wy) := fun s' => by
                by_cases er : r2 = 0
                · rw [er]
                  rfl
                · by_cases el : cy < ev
                  · have d1 := dd.1 el
                    rw [if_pos (by unfold apa at q1; rw [if_pos el] at q1; omega), d1.1]
                  · have d1 := dd.2 el
                    rw [if_neg (by omega), d1.1]
              refine ih2 (cy + dY wy) _ _ ?_ lg2.1.2 (q3.st (by omega)) (fun y y0 y1 => ?_)
              · unfold apa at q1 ⊢
                by_cases el : cy < ev
                · have d1 := dd.1 el
                  rw [if_pos el] at q1
                  split <;> omega
                · have d1 := dd.2 el
                  rw [if_neg el] at q1
                  split <;> omega
              · have g1 := q4 y y0 y1
                have g2 := lgs (sI y)
                rw [← lgw, am_st_at]
                by_cases es : y = s2 (stO cx cy wy)
                · have es2 : stO cx cy wy = sI y := by rw [es, ss]
                  rw [if_pos es2] at g2
                  rw [if_pos ⟨rfl, by omega⟩, ← es]
                  omega
                · have es2 : ¬ stO cx cy wy = sI y := fun z => es (by rw [z]; exact (s2_sI ⟨y0, y1⟩).1.symm)
                  rw [if_neg es2] at g2
                  rw [if_neg (by omega)]
                  omega
            refine x_iload9 dX13_walks_141 ?_
            refine x_if_eq (tgt := 161) dX13_walks_143 rfl (by omega) (fun c143 => absurd c143 (by decide)) (fun c143 => ?_)
            refine x_iload5 dX13_walks_146 ?_
            refine x_aload_0 dX13_walks_148 ?_
            refine x_getR dX13_walks_149 fl1604_13 rfl (by first | (exact MdL.k0 (by assumption)) | (assumption)) (by first | (exact MdL.v_errandY (by assumption)) | (assumption)) ?_
            refine x_iload7 dX13_walks_152 ?_
            refine x_iald_ dX13_walks_154 (by first | (exact MdL.k_errandY (by assumption)) | (assumption)) (by first | (exact MdL.x_errandY (by assumption) (by omega) (by omega)) | (omega)) (fun r154 => ?_)
            rw [ey3] at r154 ⊢
            refine x_icmp_eq (tgt := 260) dX13_walks_155 rfl (by omega) (by omega) (fun c155 => ?_) (fun c155 => ?_)
            · exfalso; omega
            · refine x_goto (tgt := 173) dX13_walks_158 rfl ?_
              refine x_iload9 dX13_walks_173 ?_
              refine x_if_eq (tgt := 198) dX13_walks_175 rfl (by omega) (fun c175 => ?_) (fun c175 => ?_)
              · exfalso; exact absurd c175 (by decide)
              · refine x_iload5 dX13_walks_178 ?_
                refine x_aload_0 dX13_walks_180 ?_
                refine x_getR dX13_walks_181 fl1604_13 rfl (by first | (exact MdL.k0 (by assumption)) | (assumption)) (by first | (exact MdL.v_errandY (by assumption)) | (assumption)) ?_
                refine x_iload7 dX13_walks_184 ?_
                refine x_iald_ dX13_walks_186 (by first | (exact MdL.k_errandY (by assumption)) | (assumption)) (by first | (exact MdL.x_errandY (by assumption) (by omega) (by omega)) | (omega)) (fun r186 => ?_)
                rw [ey3] at r186 ⊢
                refine x_icmp_ge (tgt := 194) dX13_walks_187 rfl (by omega) (by omega) (fun c187 => ?_) (fun c187 => ?_)
                · refine x_iconst dX13_walks_194 ?_
                  refine x_goto (tgt := 215) dX13_walks_195 rfl ?_
                  exact fin _ (by first | (rw [if_pos (by omega)]; done) | (rw [if_neg (by omega)]; done))
                · refine x_iconst dX13_walks_190 ?_
                  refine x_goto (tgt := 215) dX13_walks_191 rfl ?_
                  exact fin _ (by first | (rw [if_pos (by omega)]; done) | (rw [if_neg (by omega)]; done))
        have E266 : ∀ (h5 : am_H) (w10 : AV) (v9 : Int), wkP T h h5 o m w → (∀ y, 0 ≤ y → y < 288 → 0 ≤ h5 (o + 46) (w + y) ∧ h5 (o + 46) (w + y) + manC (tEX T m) (tEY T m) c (sI y) r eu ev = plC T m c (sI y)) → am_X G mX13_walks (d + 6) 260 [aR o, aI m, aI c, aI w, aI eu, aI ev, aI (j : Int), aI to, aI 1, aI v9, w10] [] L h5 Q := fun h5 w10 v9 q1 q2 => by
          refine x_iinc8 dX13_walks_260 rfl ?_
          refine x_goto (tgt := 122) dX13_walks_263 rfl ?_
          skip
          refine x_iload8 dX13_walks_122 ?_
          refine x_iconst dX13_walks_124 ?_
          refine x_icmp_ge (tgt := 266) dX13_walks_125 rfl (by omega) (by omega) (fun c125 => ?_) (fun c125 => ?_)
          · refine x_iinc6 dX13_walks_266 rfl ?_
            refine x_goto (tgt := 78) dX13_walks_269 rfl ?_
            exact nx h5 _ _ _ _ q1 q2
          · exfalso; omega
        have hM3 := hM.fr z5.1
        have hlv3 := hM3.2.2.1
        have ee := (hM3.2.2.2.2.2.2.2.2.1 m hm.1 hm.2).2.2.2.1
        have ebo := z5.2.1 (j : Int) (by omega) (by omega)
        rw [hy] at ebo
        have aux := apa_nn u eu
        have auy := apa_nn v ev
        have lN := fun a b (n : Nat) x y => (lgC_bd a b n x y).1
        have c01 : c = 0 ∨ c = 1 := by omega
        refine x_iload6 dX13_walks_78 ?_
        refine x_aload_0 dX13_walks_80 ?_
        refine x_getR dX13_walks_81 fl1602_13 rfl (by first | (exact MdL.k0 (by assumption)) | (assumption)) (by first | (exact MdL.v_errands (by assumption)) | (assumption)) ?_
        refine x_bipush dX13_walks_84 rfl ?_
        refine x_aload_0 dX13_walks_86 ?_
        refine x_getI_ dX13_walks_87 fl1592_13 (by first | (exact MdL.k0 (by assumption)) | (assumption)) (fun r87 => ?_)
        rw [hlv3] at r87 ⊢
        refine x_imul dX13_walks_90 ?_
        refine x_iload_1 dX13_walks_91 ?_
        refine x_iadd dX13_walks_92 ?_
        refine x_iald_ dX13_walks_93 (by first | (exact MdL.k_errands (by assumption)) | (assumption)) (by first | (exact MdL.x_errands (by assumption) (by omega) (by omega)) | (omega)) (fun r93 => ?_)
        rw [ee] at r93 ⊢
        refine x_icmp_ge (tgt := 272) dX13_walks_94 rfl (by omega) (by omega) (fun c94 => ?_) (fun c94 => ?_)
        · exfalso; omega
        · refine x_bipush dX13_walks_97 rfl ?_
          refine x_aload_0 dX13_walks_99 ?_
          refine x_getI_ dX13_walks_100 fl1592_13 (by first | (exact MdL.k0 (by assumption)) | (assumption)) (fun r100 => ?_)
          rw [hlv3] at r100 ⊢
          refine x_imul dX13_walks_103 ?_
          refine x_bipush dX13_walks_104 rfl ?_
          refine x_iload_1 dX13_walks_106 ?_
          refine x_imul dX13_walks_107 ?_
          refine x_iadd dX13_walks_108 ?_
          refine x_aload_0 dX13_walks_109 ?_
          refine x_getR dX13_walks_110 fl1637_13 rfl (by first | (exact MdL.k0 (by assumption)) | (assumption)) (by first | (exact MdL.v_bestOrder (by assumption)) | (assumption)) ?_
          refine x_iload6 dX13_walks_113 ?_
          refine x_iald_ dX13_walks_115 (by first | (exact MdL.k_bestOrder (by assumption)) | (assumption)) (by first | (exact MdL.x_bestOrder (by assumption) (by omega) (by omega)) | (omega)) (fun r115 => ?_)
          rw [ebo] at r115 ⊢
          refine x_iadd dX13_walks_116 ?_
          refine x_istore7 dX13_walks_117 rfl ?_
          rw [hto]
          refine x_iconst dX13_walks_119 ?_
          refine x_istore8 dX13_walks_120 rfl ?_
          rcases c01 with rfl | rfl
          · skip
            refine x_iload8 dX13_walks_122 ?_
            refine x_iconst dX13_walks_124 ?_
            refine x_icmp_ge (tgt := 266) dX13_walks_125 rfl (by omega) (by omega) (fun c125 => ?_) (fun c125 => ?_)
            · exfalso; omega
            · refine x_iload8 dX13_walks_128 ?_
              refine x_iload_2 dX13_walks_130 ?_
              refine x_icmp_eq (tgt := 138) dX13_walks_131 rfl (by omega) (by omega) (fun c131 => ?_) (fun c131 => ?_)
              · refine x_iconst dX13_walks_138 ?_
                refine x_istore9 dX13_walks_139 rfl ?_
                refine LX 0 v (fun a => lgC (if v < ev then 1 else 3) a (apa v ev).toNat eu v + manC (tEX T m) (tEY T m) 0 a r eu ev) z4 (fun a => by have := lN (if v < ev then 1 else 3) a (apa v ev).toNat eu v; have := mN a; omega) (fun h4 w10 q1 q2 => ?_) (apa u eu).toNat u h2 _ (by omega) z3 z5 (fun y y0 y1 => by
                  have g1 := z6 y y0 y1
                  have g2 := mC (sI y)
                  rw [if_pos rfl, if_pos rfl] at g2
                  omega)
                refine x_iinc8 dX13_walks_260 rfl ?_
                refine x_goto (tgt := 122) dX13_walks_263 rfl ?_
                skip
                refine x_iload8 dX13_walks_122 ?_
                refine x_iconst dX13_walks_124 ?_
                refine x_icmp_ge (tgt := 266) dX13_walks_125 rfl (by omega) (by omega) (fun c125 => ?_) (fun c125 => ?_)
                · exfalso; omega
                · refine x_iload8 dX13_walks_128 ?_
                  refine x_iload_2 dX13_walks_130 ?_
                  refine x_icmp_eq (tgt := 138) dX13_walks_131 rfl (by omega) (by omega) (fun c131 => ?_) (fun c131 => ?_)
                  · exfalso; omega
                  · refine x_iconst dX13_walks_134 ?_
                    refine x_goto (tgt := 139) dX13_walks_135 rfl ?_
                    refine x_istore9 dX13_walks_139 rfl ?_
                    exact LY 1 eu (fun a => manC (tEX T m) (tEY T m) 0 a r eu ev) bx mN (fun h5 w10 q3 q4 => E266 h5 w10 1 q3 q4) (apa v ev).toNat v h4 _ (by omega) z4 q1 q2
              · exfalso; omega
          · skip
            refine x_iload8 dX13_walks_122 ?_
            refine x_iconst dX13_walks_124 ?_
            refine x_icmp_ge (tgt := 266) dX13_walks_125 rfl (by omega) (by omega) (fun c125 => ?_) (fun c125 => ?_)
            · exfalso; omega
            · refine x_iload8 dX13_walks_128 ?_
              refine x_iload_2 dX13_walks_130 ?_
              refine x_icmp_eq (tgt := 138) dX13_walks_131 rfl (by omega) (by omega) (fun c131 => ?_) (fun c131 => ?_)
              · exfalso; omega
              · refine x_iconst dX13_walks_134 ?_
                refine x_goto (tgt := 139) dX13_walks_135 rfl ?_
                refine x_istore9 dX13_walks_139 rfl ?_
                refine LY 0 u (fun a => lgC (if u < eu then 2 else 4) a (apa u eu).toNat u ev + manC (tEX T m) (tEY T m) 1 a r eu ev) z3 (fun a => by have := lN (if u < eu then 2 else 4) a (apa u eu).toNat u ev; have := mN a; omega) (fun h4 w10 q1 q2 => ?_) (apa v ev).toNat v h2 _ (by omega) z4 z5 (fun y y0 y1 => by
                  have g1 := z6 y y0 y1
                  have g2 := mC (sI y)
                  rw [if_neg (show ¬ (1 : Int) = 0 by decide), if_neg (show ¬ (1 : Int) = 0 by decide)] at g2
                  omega)
                refine x_iinc8 dX13_walks_260 rfl ?_
                refine x_goto (tgt := 122) dX13_walks_263 rfl ?_
                skip
                refine x_iload8 dX13_walks_122 ?_
                refine x_iconst dX13_walks_124 ?_
                refine x_icmp_ge (tgt := 266) dX13_walks_125 rfl (by omega) (by omega) (fun c125 => ?_) (fun c125 => ?_)
                · exfalso; omega
                · refine x_iload8 dX13_walks_128 ?_
                  refine x_iload_2 dX13_walks_130 ?_
                  refine x_icmp_eq (tgt := 138) dX13_walks_131 rfl (by omega) (by omega) (fun c131 => ?_) (fun c131 => ?_)
                  · refine x_iconst dX13_walks_138 ?_
                    refine x_istore9 dX13_walks_139 rfl ?_
                    exact LX 1 ev (fun a => manC (tEX T m) (tEY T m) 1 a r eu ev) by_ mN (fun h5 w10 q3 q4 => E266 h5 w10 0 q3 q4) (apa u eu).toNat u h4 _ (by omega) z3 q1 q2
                  · exfalso; omega
    refine x_aload_0 dX13_walks_43 ?_
    refine x_getR dX13_walks_44 fl1599_13 rfl (by first | (exact MdL.k0 (by assumption)) | (assumption)) (by first | (exact MdL.v_doorX (by assumption)) | (assumption)) ?_
    refine x_bipush dX13_walks_47 rfl ?_
    refine x_aload_0 dX13_walks_49 ?_
    refine x_getI_ dX13_walks_50 fl1592_13 (by first | (exact MdL.k0 (by assumption)) | (assumption)) (fun r50 => ?_)
    rw [hlv2] at r50 ⊢
    refine x_imul dX13_walks_53 ?_
    refine x_iload_1 dX13_walks_54 ?_
    refine x_iadd dX13_walks_55 ?_
    refine x_iald_ dX13_walks_56 (by first | (exact MdL.k_doorX (by assumption)) | (assumption)) (by first | (exact MdL.x_doorX (by assumption) (by omega) (by omega)) | (omega)) (fun r56 => ?_)
    rw [edx] at r56 ⊢
    refine x_istore4 dX13_walks_57 rfl ?_
    refine x_aload_0 dX13_walks_59 ?_
    refine x_getR dX13_walks_60 fl1600_13 rfl (by first | (exact MdL.k0 (by assumption)) | (assumption)) (by first | (exact MdL.v_doorY (by assumption)) | (assumption)) ?_
    refine x_bipush dX13_walks_63 rfl ?_
    refine x_aload_0 dX13_walks_65 ?_
    refine x_getI_ dX13_walks_66 fl1592_13 (by first | (exact MdL.k0 (by assumption)) | (assumption)) (fun r66 => ?_)
    rw [hlv2] at r66 ⊢
    refine x_imul dX13_walks_69 ?_
    refine x_iload_1 dX13_walks_70 ?_
    refine x_iadd dX13_walks_71 ?_
    refine x_iald_ dX13_walks_72 (by first | (exact MdL.k_doorY (by assumption)) | (assumption)) (by first | (exact MdL.x_doorY (by assumption) (by omega) (by omega)) | (omega)) (fun r72 => ?_)
    rw [edy] at r72 ⊢
    refine x_istore5 dX13_walks_73 rfl ?_
    refine x_iconst dX13_walks_75 ?_
    refine x_istore6 dX13_walks_76 rfl ?_
    exact H78 (wyL T m) 0 _ _ h1 _ _ _ _ rfl (by omega) hd.1 hd.2 W0 (fun y y0 y1 => by rw [hl1, p3 y y0 y1]; exact ⟨Int.le_refl _, Int.zero_add _⟩)
  · refine x_aload_0 dX13_walks_21 ?_
    refine x_getR dX13_walks_22 fl1641_13 rfl (by first | (exact MdL.k0 (by assumption)) | (assumption)) (by first | (exact MdL.v_laid (by assumption)) | (assumption)) ?_
    refine x_iload_3 dX13_walks_25 ?_
    refine x_iload4 dX13_walks_26 ?_
    refine x_iadd dX13_walks_28 ?_
    refine x_iconst dX13_walks_29 ?_
    refine x_iast_ dX13_walks_30 (by first | (exact MdL.k_laid (by assumption)) | (assumption)) (by first | (exact MdL.x_laid (by assumption) (by omega) (by omega)) | (omega)) (by omega) ?_
    refine x_iinc4 dX13_walks_31 rfl ?_
    refine x_goto (tgt := 13) dX13_walks_34 rfl ?_
    refine ih _ (by omega) ⟨fun a ha => by rw [am_st_o ha]; exact p1 a ha, fun j z => by rw [am_st_i (by omega)]; exact p2 j z, fun y z0 z1 => ?_⟩
    rw [am_st_at]
    by_cases e : y = i
    · rw [if_pos ⟨rfl, by omega⟩]
    · rw [if_neg (by omega)]
      exact p3 y z0 (by omega)
/-- what is laid of the first n men -/
def laidP (T : Txt) (h : am_H) (o n : Int) : Prop := ∀ m c y, 0 ≤ m → m < n → 0 ≤ c → c < 2 → 0 ≤ y → y < 288 → h (o + 46) (288 * (2 * m + c) + y) = plC T m c (sI y)
/-- two rows crossed, by their numbers -/
def crB (T : Txt) (a c : Int) : Int := crR T (a / 2) (a % 2) (c / 2) (c % 2)
set_option maxHeartbeats 16000000 in
theorem C_X13_plain {w : Int} (hC : TwT L h o s T S) (hT : TxtI T) (hw : rg32 w) (k : ∀ h', FrW h h' o → Q (.inl [aI (plainV T w)]) L h') : am_C G mX13_plain (d + 12) [aR o, aI w] L h Q := by
  have hM := hC.1
  have hL := hM.1
  have hs := hM.2.1
  have h7 := hT.1
  have pwb := pw_bd (n := tM T) ⟨h7.1, by omega⟩
  have Hset : ∀ (hh : am_H), FrW h hh o → (∀ a c, 0 ≤ a → a < 2 * tM T → 0 ≤ c → c < 2 * tM T → hh (o + 47) (14 * a + c) = crB T a c) → (0 ≤ w ∧ w ≤ 1) → ∀ (v2 v3 v4 : AV), am_X G mX13_plain (d + 12) 167 [aR o, aI w, v2, v3, v4, aU, aU, aU] [] L hh Q := by
    intro hh p1 p2 hw1 v2 v3 v4
    have hM1 := hM.fr p1
    have hlv := hM1.2.2.1
    have hmen := hM1.2.2.2.1
    refine x_iconst dX13_plain_167 ?_
    refine x_istore_2 dX13_plain_168 rfl ?_
    refine x_iconst dX13_plain_169 ?_
    refine x_istore_3 dX13_plain_170 rfl ?_
    refine x_iconst dX13_plain_171 ?_
    refine x_istore4 dX13_plain_172 rfl ?_
    refine x_up3 (bShl 1 (tM T)) (fun a w5 w6 w7 => 0 ≤ a → a ≤ bShl 1 (tM T) → am_X G mX13_plain (d + 12) 174 [aR o, aI w, aI (plI T a.toNat).1, aI (plI T a.toNat).2, aI a, w5, w6, w7] [] L hh Q) (fun a w5 w6 w7 ihs y0 y1 => ?_) 0 _ _ _ (by omega) (by omega)
    have pl := (plI_bd hT a.toNat).1
    have psb : 0 ≤ psR T a ∧ psR T a ≤ 853776 := psR_bd hT a (n := tM T) ⟨h7.1, by omega⟩
    have nxt : ∀ u v w5 w6 w7, a < bShl 1 (tM T) → (u, v) = (if 0 ≤ (plI T a.toNat).2 ∧ (plI T a.toNat).2 ≤ psR T a then plI T a.toNat else (a, psR T a)) → am_X G mX13_plain (d + 12) 174 [aR o, aI w, aI u, aI v, aI (a + 1), w5, w6, w7] [] L hh Q := fun u v w5 w6 w7 z e => by
      have := ihs z w5 w6 w7 (by omega) (by omega)
      rw [plI_s y0, ← e] at this
      exact this
    refine x_iload4 dX13_plain_174 ?_
    refine x_iconst dX13_plain_176 ?_
    refine x_aload_0 dX13_plain_177 ?_
    refine x_getR dX13_plain_178 fl1598_13 rfl (by first | (exact MdL.k0 (by assumption)) | (assumption)) (by first | (exact MdL.v_men (by assumption)) | (assumption)) ?_
    refine x_aload_0 dX13_plain_181 ?_
    refine x_getI_ dX13_plain_182 fl1592_13 (by first | (exact MdL.k0 (by assumption)) | (assumption)) (fun r182 => ?_)
    rw [hlv] at r182 ⊢
    refine x_iald_ dX13_plain_185 (by first | (exact MdL.k_men (by assumption)) | (assumption)) (by first | (exact MdL.x_men (by assumption) (by omega) (by omega)) | (omega)) (fun r185 => ?_)
    rw [hmen] at r185 ⊢
    refine x_ishl dX13_plain_186 ?_
    refine x_icmp_ge (tgt := 305) dX13_plain_187 rfl (by omega) (by omega) (fun c187 => ?_) (fun c187 => ?_)
    · have ea : a = bShl 1 (tM T) := by omega
      rw [ea]
      refine x_iload_1 dX13_plain_305 ?_
      refine x_if_ne (tgt := 313) dX13_plain_306 rfl (by omega) (fun c306 => ?_) (fun c306 => ?_)
      · refine x_iload_2 dX13_plain_313 ?_
        refine x_iret dX13_plain_314 rfl ?_
        refine x_q1 ?_ (k hh p1)
        unfold plainV
        rw [if_pos hw1]
        first
        | (rw [if_pos (by omega)]; done)
        | (rw [if_neg (by omega)]; done)
      · refine x_iload_3 dX13_plain_309 ?_
        refine x_goto (tgt := 314) dX13_plain_310 rfl ?_
        refine x_iret dX13_plain_314 rfl ?_
        refine x_q1 ?_ (k hh p1)
        unfold plainV
        rw [if_pos hw1]
        first
        | (rw [if_pos (by omega)]; done)
        | (rw [if_neg (by omega)]; done)
    · refine x_iconst dX13_plain_190 ?_
      refine x_istore5 dX13_plain_191 rfl ?_
      refine x_iconst dX13_plain_193 ?_
      refine x_istore6 dX13_plain_194 rfl ?_
      have ha : a < bShl 1 (tM T) := by omega
      refine x_up2 (tM T) (fun m n w7 => 0 ≤ m → m ≤ tM T → n = sumI m (fun m => sumI (tM T) (psF T a m)) → am_X G mX13_plain (d + 12) 196 [aR o, aI w, aI (plI T a.toNat).1, aI (plI T a.toNat).2, aI a, aI n, aI m, w7] [] L hh Q) (fun m n w7 ihm x0 x1 en => ?_) 0 0 _ (by omega) h7.1 rfl
      refine x_iload6 dX13_plain_196 ?_
      refine x_aload_0 dX13_plain_198 ?_
      refine x_getR dX13_plain_199 fl1598_13 rfl (by first | (exact MdL.k0 (by assumption)) | (assumption)) (by first | (exact MdL.v_men (by assumption)) | (assumption)) ?_
      refine x_aload_0 dX13_plain_202 ?_
      refine x_getI_ dX13_plain_203 fl1592_13 (by first | (exact MdL.k0 (by assumption)) | (assumption)) (fun r203 => ?_)
      rw [hlv] at r203 ⊢
      refine x_iald_ dX13_plain_206 (by first | (exact MdL.k_men (by assumption)) | (assumption)) (by first | (exact MdL.x_men (by assumption) (by omega) (by omega)) | (omega)) (fun r206 => ?_)
      rw [hmen] at r206 ⊢
      refine x_icmp_ge (tgt := 280) dX13_plain_207 rfl (by omega) (by omega) (fun c207 => ?_) (fun c207 => ?_)
      · have em : m = tM T := by omega
        have en2 : n = psR T a := by rw [en, em]; rfl
        rw [en2]
        refine x_iload_3 dX13_plain_280 ?_
        refine x_if_lt (tgt := 293) dX13_plain_281 rfl (by omega) (fun c281 => ?_) (fun c281 => ?_)
        · refine x_iload4 dX13_plain_293 ?_
          refine x_istore_2 dX13_plain_295 rfl ?_
          refine x_iload5 dX13_plain_296 ?_
          refine x_istore_3 dX13_plain_298 rfl ?_
          refine x_iinc4 dX13_plain_299 rfl ?_
          refine x_goto (tgt := 174) dX13_plain_302 rfl ?_
          refine nxt _ _ _ _ _ ha ?_
          first
          | (rw [if_pos (by omega)]; done)
          | (rw [if_neg (by omega)]; done)
        · refine x_iload5 dX13_plain_284 ?_
          refine x_iload_3 dX13_plain_286 ?_
          refine x_icmp_lt (tgt := 293) dX13_plain_287 rfl (by omega) (by omega) (fun c287 => ?_) (fun c287 => ?_)
          · refine x_iload4 dX13_plain_293 ?_
            refine x_istore_2 dX13_plain_295 rfl ?_
            refine x_iload5 dX13_plain_296 ?_
            refine x_istore_3 dX13_plain_298 rfl ?_
            refine x_iinc4 dX13_plain_299 rfl ?_
            refine x_goto (tgt := 174) dX13_plain_302 rfl ?_
            refine nxt _ _ _ _ _ ha ?_
            first
            | (rw [if_pos (by omega)]; done)
            | (rw [if_neg (by omega)]; done)
          · refine x_goto (tgt := 299) dX13_plain_290 rfl ?_
            refine x_iinc4 dX13_plain_299 rfl ?_
            refine x_goto (tgt := 174) dX13_plain_302 rfl ?_
            refine nxt _ _ _ _ _ ha ?_
            first
            | (rw [if_pos (by omega)]; done)
            | (rw [if_neg (by omega)]; done)
      · refine x_iload6 dX13_plain_210 ?_
        refine x_iconst dX13_plain_212 ?_
        refine x_iadd dX13_plain_213 ?_
        refine x_istore7 dX13_plain_214 rfl ?_
        have hm : m < tM T := by omega
        have h0 := psI_0 T a x0
        refine x_up1 (tM T) (fun c n' => m < c → c ≤ tM T → n' = n + sumI c (psF T a m) → am_X G mX13_plain (d + 12) 216 [aR o, aI w, aI (plI T a.toNat).1, aI (plI T a.toNat).2, aI a, aI n', aI m, aI c] [] L hh Q) (fun c n' iho z0 z1 en' => ?_) (m + 1) n (by omega) (by omega) (by omega)
        have b1 : bAnd (bShr a m) 1 = bt a m := rfl
        have b2 : bAnd (bShr a c) 1 = bt a c := rfl
        have b3 := bt_01 a m
        have b4 := bt_01 a c
        refine x_iload7 dX13_plain_216 ?_
        refine x_aload_0 dX13_plain_218 ?_
        refine x_getR dX13_plain_219 fl1598_13 rfl (by first | (exact MdL.k0 (by assumption)) | (assumption)) (by first | (exact MdL.v_men (by assumption)) | (assumption)) ?_
        refine x_aload_0 dX13_plain_222 ?_
        refine x_getI_ dX13_plain_223 fl1592_13 (by first | (exact MdL.k0 (by assumption)) | (assumption)) (fun r223 => ?_)
        rw [hlv] at r223 ⊢
        refine x_iald_ dX13_plain_226 (by first | (exact MdL.k_men (by assumption)) | (assumption)) (by first | (exact MdL.x_men (by assumption) (by omega) (by omega)) | (omega)) (fun r226 => ?_)
        rw [hmen] at r226 ⊢
        refine x_icmp_ge (tgt := 274) dX13_plain_227 rfl (by omega) (by omega) (fun c227 => ?_) (fun c227 => ?_)
        · refine x_iinc6 dX13_plain_274 rfl ?_
          refine x_goto (tgt := 196) dX13_plain_277 rfl ?_
          refine ihm hm _ _ (by omega) (by omega) ?_
          rw [sumI_s _ x0, en', en, show c = tM T by omega]
        · have hcx : hh (o + 47) (14 * (2 * m + bAnd (bShr a m) 1) + 2 * c + bAnd (bShr a c) 1) = crR T m (bt a m) c (bt a c) := by
            rw [b1, b2, show 14 * (2 * m + bt a m) + 2 * c + bt a c = 14 * (2 * m + bt a m) + (2 * c + bt a c) by omega, p2 _ _ (by omega) (by omega) (by omega) (by omega)]
            unfold crB
            rw [show (2 * m + bt a m) / 2 = m by omega, show (2 * m + bt a m) % 2 = bt a m by omega, show (2 * c + bt a c) / 2 = c by omega, show (2 * c + bt a c) % 2 = bt a c by omega]
          refine x_iload5 dX13_plain_230 ?_
          refine x_aload_0 dX13_plain_232 ?_
          refine x_getR dX13_plain_233 fl1642_13 rfl (by first | (exact MdL.k0 (by assumption)) | (assumption)) (by first | (exact MdL.v_crossed (by assumption)) | (assumption)) ?_
          refine x_bipush dX13_plain_236 rfl ?_
          refine x_iconst dX13_plain_238 ?_
          refine x_iload6 dX13_plain_239 ?_
          refine x_imul dX13_plain_241 ?_
          refine x_iload4 dX13_plain_242 ?_
          refine x_iload6 dX13_plain_244 ?_
          refine x_ishr dX13_plain_246 ?_
          refine x_iconst dX13_plain_247 ?_
          refine x_iand dX13_plain_248 ?_
          refine x_iadd dX13_plain_249 ?_
          refine x_imul dX13_plain_250 ?_
          refine x_iconst dX13_plain_251 ?_
          refine x_iload7 dX13_plain_252 ?_
          refine x_imul dX13_plain_254 ?_
          refine x_iadd dX13_plain_255 ?_
          refine x_iload4 dX13_plain_256 ?_
          refine x_iload7 dX13_plain_258 ?_
          refine x_ishr dX13_plain_260 ?_
          refine x_iconst dX13_plain_261 ?_
          refine x_iand dX13_plain_262 ?_
          refine x_iadd dX13_plain_263 ?_
          refine x_iald_ dX13_plain_264 (by first | (exact MdL.k_crossed (by assumption)) | (assumption)) (by first | (exact MdL.x_crossed (by assumption) (by omega) (by omega)) | (omega)) (fun r264 => ?_)
          rw [hcx] at r264 ⊢
          refine x_iadd dX13_plain_265 ?_
          refine x_istore5 dX13_plain_266 rfl ?_
          refine x_iinc7 dX13_plain_268 rfl ?_
          refine x_goto (tgt := 216) dX13_plain_271 rfl ?_
          refine iho (by omega) _ (by omega) (by omega) ?_
          rw [sumI_s _ (by omega), en']
          have e : psF T a m c = crR T m (bt a m) c (bt a c) := if_pos z0
          omega
  have Hcr : ∀ (h1 : am_H), FrW h h1 o → laidP T h1 o (tM T) → (0 ≤ w ∧ w ≤ 1) → ∀ (v2 v3 : AV), am_X G mX13_plain (d + 12) 51 [aR o, aI w, v2, v3, aU, aU, aU, aU] [] L h1 Q := by
    intro h1 p1 p2 hw1 v2 v3
    refine x_iconst dX13_plain_51 ?_
    refine x_istore_2 dX13_plain_52 rfl ?_
    refine x_forA (2 * tM T) (fun i hh (z : AV × AV) => FrW h hh o ∧ hh (o + 46) = h1 (o + 46) ∧ ∀ a c, 0 ≤ a → a < i → 0 ≤ c → c < 2 * tM T → hh (o + 47) (14 * a + c) = crB T a c) (fun i hh z => am_X G mX13_plain (d + 12) 53 [aR o, aI w, aI i, z.1, z.2, aU, aU, aU] [] L hh Q) (fun i hh z g0 g1 hP ih => ?_) h1 (v3, aU) (by omega) ⟨p1, rfl, fun a c z0 z1 => by omega⟩
    obtain ⟨q1, q2, q3⟩ := hP
    have hM1 := hM.fr q1
    have hlv := hM1.2.2.1
    have hmen := hM1.2.2.2.1
    refine x_iload_2 dX13_plain_53 ?_
    refine x_iconst dX13_plain_54 ?_
    refine x_aload_0 dX13_plain_55 ?_
    refine x_getR dX13_plain_56 fl1598_13 rfl (by first | (exact MdL.k0 (by assumption)) | (assumption)) (by first | (exact MdL.v_men (by assumption)) | (assumption)) ?_
    refine x_aload_0 dX13_plain_59 ?_
    refine x_getI_ dX13_plain_60 fl1592_13 (by first | (exact MdL.k0 (by assumption)) | (assumption)) (fun r60 => ?_)
    rw [hlv] at r60 ⊢
    refine x_iald_ dX13_plain_63 (by first | (exact MdL.k_men (by assumption)) | (assumption)) (by first | (exact MdL.x_men (by assumption) (by omega) (by omega)) | (omega)) (fun r63 => ?_)
    rw [hmen] at r63 ⊢
    refine x_imul dX13_plain_64 ?_
    refine x_icmp_ge (tgt := 167) dX13_plain_65 rfl (by omega) (by omega) (fun c65 => ?_) (fun c65 => ?_)
    · exact Hset hh q1 (fun a c z0 z1 z2 z3 => q3 a c z0 (by omega) z2 z3) hw1 _ _ _
    · refine x_iconst dX13_plain_68 ?_
      refine x_istore_3 dX13_plain_69 rfl ?_
      have hi : i < 2 * tM T := by omega
      refine x_forA (2 * tM T) (fun j h2 (z4 : AV) => FrW h h2 o ∧ h2 (o + 46) = h1 (o + 46) ∧ (∀ a c, 0 ≤ a → a < i → 0 ≤ c → c < 2 * tM T → h2 (o + 47) (14 * a + c) = crB T a c) ∧ ∀ c, 0 ≤ c → c < j → h2 (o + 47) (14 * i + c) = crB T i c) (fun j h2 z4 => am_X G mX13_plain (d + 12) 70 [aR o, aI w, aI i, aI j, z4, aU, aU, aU] [] L h2 Q) (fun j h2 z4 y0 y1 hP2 ih2 => ?_) hh _ (by omega) ⟨q1, q2, q3, fun c z0 z1 => by omega⟩
      obtain ⟨u1, u2, u3, u4⟩ := hP2
      have hM2 := hM.fr u1
      have hlv2 := hM2.2.2.1
      have hmen2 := hM2.2.2.2.1
      refine x_iload_3 dX13_plain_70 ?_
      refine x_iconst dX13_plain_71 ?_
      refine x_aload_0 dX13_plain_72 ?_
      refine x_getR dX13_plain_73 fl1598_13 rfl (by first | (exact MdL.k0 (by assumption)) | (assumption)) (by first | (exact MdL.v_men (by assumption)) | (assumption)) ?_
      refine x_aload_0 dX13_plain_76 ?_
      refine x_getI_ dX13_plain_77 fl1592_13 (by first | (exact MdL.k0 (by assumption)) | (assumption)) (fun r77 => ?_)
      rw [hlv2] at r77 ⊢
      refine x_iald_ dX13_plain_80 (by first | (exact MdL.k_men (by assumption)) | (assumption)) (by first | (exact MdL.x_men (by assumption) (by omega) (by omega)) | (omega)) (fun r80 => ?_)
      rw [hmen2] at r80 ⊢
      refine x_imul dX13_plain_81 ?_
      refine x_icmp_ge (tgt := 161) dX13_plain_82 rfl (by omega) (by omega) (fun c82 => ?_) (fun c82 => ?_)
      · refine x_iinc2 dX13_plain_161 rfl ?_
        refine x_goto (tgt := 53) dX13_plain_164 rfl ?_
        refine ih h2 (aI j, z4) hi ⟨u1, u2, fun a c z0 z1 z2 z3 => ?_⟩
        by_cases e : a = i
        · rw [e]
          exact u4 c z2 (by omega)
        · exact u3 a c z0 (by omega) z2 z3
      · refine x_aload_0 dX13_plain_85 ?_
        refine x_getR dX13_plain_86 fl1642_13 rfl (by first | (exact MdL.k0 (by assumption)) | (assumption)) (by first | (exact MdL.v_crossed (by assumption)) | (assumption)) ?_
        refine x_bipush dX13_plain_89 rfl ?_
        refine x_iload_2 dX13_plain_91 ?_
        refine x_imul dX13_plain_92 ?_
        refine x_iload_3 dX13_plain_93 ?_
        refine x_iadd dX13_plain_94 ?_
        refine x_iconst dX13_plain_95 ?_
        refine x_iast_ dX13_plain_96 (by first | (exact MdL.k_crossed (by assumption)) | (assumption)) (by first | (exact MdL.x_crossed (by assumption) (by omega) (by omega)) | (omega)) (by omega) ?_
        refine x_iconst dX13_plain_97 ?_
        refine x_istore4 dX13_plain_98 rfl ?_
        have hj : j < 2 * tM T := by omega
        have pm := fun n (z : 0 ≤ n ∧ n ≤ 288) => sumI_mono (a := n) (c := 288) (f := fun y => crF T (i / 2) (i % 2) (j / 2) (j % 2) (sI y)) z.1 z.2 (fun k _ _ => crF_nn _ _ _ _ _ _)
        have tot : sumI 288 (fun y => crF T (i / 2) (i % 2) (j / 2) (j % 2) (sI y)) = crB T i j := sum_sI _
        have cb : 0 ≤ crB T i j ∧ crB T i j ≤ 17424 := cr_bd hT (m := i / 2) (o := j / 2) ⟨by omega, by omega⟩ ⟨by omega, by omega⟩ _ _ (n := 288) ⟨by omega, by omega⟩
        have pn := fun n (z : 0 ≤ n ∧ n ≤ 288) => sumI_mono (a := 0) (c := n) (f := fun y => crF T (i / 2) (i % 2) (j / 2) (j % 2) (sI y)) (Int.le_refl _) z.1 (fun k _ _ => crF_nn _ _ _ _ _ _)
        refine x_for 288 (fun y h3 => FrW h h3 o ∧ h3 (o + 46) = h1 (o + 46) ∧ (∀ a c, 0 ≤ a → a < i → 0 ≤ c → c < 2 * tM T → h3 (o + 47) (14 * a + c) = crB T a c) ∧ (∀ c, 0 ≤ c → c < j → h3 (o + 47) (14 * i + c) = crB T i c) ∧ h3 (o + 47) (14 * i + j) = sumI y (fun y => crF T (i / 2) (i % 2) (j / 2) (j % 2) (sI y))) (fun y h3 => am_X G mX13_plain (d + 12) 100 [aR o, aI w, aI i, aI j, aI y, aU, aU, aU] [] L h3 Q) (fun y h3 z0 z1 hP3 ih3 => ?_) _ (by omega) ⟨u1.tr (FrW.arr (by omega)), by rw [am_st_o (by omega)]; exact u2, fun a c x0 x1 x2 x3 => by rw [am_st_i (by omega)]; exact u3 a c x0 x1 x2 x3, fun c x0 x1 => by rw [am_st_i (by omega)]; exact u4 c x0 x1, by rw [am_st_s]; rfl⟩
        obtain ⟨v1, v2, v3, v4, v5⟩ := hP3
        refine x_iload4 dX13_plain_100 ?_
        refine x_sipush dX13_plain_102 rfl ?_
        refine x_icmp_ge (tgt := 155) dX13_plain_105 rfl (by omega) (by omega) (fun c105 => ?_) (fun c105 => ?_)
        · refine x_iinc3 dX13_plain_155 rfl ?_
          refine x_goto (tgt := 70) dX13_plain_158 rfl ?_
          refine ih2 h3 _ hj ⟨v1, v2, v3, fun c x0 x1 => ?_⟩
          by_cases e : c = j
          · rw [e, v5, show y = 288 by omega, tot]
          · exact v4 c x0 (by omega)
        · have hy : y < 288 := by omega
          have e1 : h3 (o + 46) (288 * i + y) = plC T (i / 2) (i % 2) (sI y) := by
            rw [v2, show 288 * i + y = 288 * (2 * (i / 2) + i % 2) + y by omega]
            exact p2 _ _ y (by omega) (by omega) (by omega) (by omega) z0 hy
          have e2 : h3 (o + 46) (288 * j + y) = plC T (j / 2) (j % 2) (sI y) := by
            rw [v2, show 288 * j + y = 288 * (2 * (j / 2) + j % 2) + y by omega]
            exact p2 _ _ y (by omega) (by omega) (by omega) (by omega) z0 hy
          have es := sumI_s (fun y => crF T (i / 2) (i % 2) (j / 2) (j % 2) (sI y)) z0
          have ecf : crF T (i / 2) (i % 2) (j / 2) (j % 2) (sI y) = plC T (i / 2) (i % 2) (sI y) * plC T (j / 2) (j % 2) (sI y) := rfl
          have b1 := pm (y + 1) ⟨by omega, by omega⟩
          have b2 := pn (y + 1) ⟨by omega, by omega⟩
          rw [sumI_0] at b2
          rw [es] at b1 b2
          simp only [ecf] at b1 b2 es
          refine x_aload_0 dX13_plain_108 ?_
          refine x_getR dX13_plain_109 fl1642_13 rfl (by first | (exact MdL.k0 (by assumption)) | (assumption)) (by first | (exact MdL.v_crossed (by assumption)) | (assumption)) ?_
          refine x_bipush dX13_plain_112 rfl ?_
          refine x_iload_2 dX13_plain_114 ?_
          refine x_imul dX13_plain_115 ?_
          refine x_iload_3 dX13_plain_116 ?_
          refine x_iadd dX13_plain_117 ?_
          refine x_dup2 dX13_plain_118 rfl rfl ?_
          refine x_iald_ dX13_plain_119 (by first | (exact MdL.k_crossed (by assumption)) | (assumption)) (by first | (exact MdL.x_crossed (by assumption) (by omega) (by omega)) | (omega)) (fun r119 => ?_)
          rw [v5] at r119 ⊢
          refine x_aload_0 dX13_plain_120 ?_
          refine x_getR dX13_plain_121 fl1641_13 rfl (by first | (exact MdL.k0 (by assumption)) | (assumption)) (by first | (exact MdL.v_laid (by assumption)) | (assumption)) ?_
          refine x_sipush dX13_plain_124 rfl ?_
          refine x_iload_2 dX13_plain_127 ?_
          refine x_imul dX13_plain_128 ?_
          refine x_iload4 dX13_plain_129 ?_
          refine x_iadd dX13_plain_131 ?_
          refine x_iald_ dX13_plain_132 (by first | (exact MdL.k_laid (by assumption)) | (assumption)) (by first | (exact MdL.x_laid (by assumption) (by omega) (by omega)) | (omega)) (fun r132 => ?_)
          simp (disch := omega) only [e1, e2] at r132 ⊢
          refine x_aload_0 dX13_plain_133 ?_
          refine x_getR dX13_plain_134 fl1641_13 rfl (by first | (exact MdL.k0 (by assumption)) | (assumption)) (by first | (exact MdL.v_laid (by assumption)) | (assumption)) ?_
          refine x_sipush dX13_plain_137 rfl ?_
          refine x_iload_3 dX13_plain_140 ?_
          refine x_imul dX13_plain_141 ?_
          refine x_iload4 dX13_plain_142 ?_
          refine x_iadd dX13_plain_144 ?_
          refine x_iald_ dX13_plain_145 (by first | (exact MdL.k_laid (by assumption)) | (assumption)) (by first | (exact MdL.x_laid (by assumption) (by omega) (by omega)) | (omega)) (fun r145 => ?_)
          simp (disch := omega) only [e1, e2] at r145 ⊢
          refine x_imul dX13_plain_146 ?_
          refine x_iadd dX13_plain_147 ?_
          refine x_iast_ dX13_plain_148 (by first | (exact MdL.k_crossed (by assumption)) | (assumption)) (by first | (exact MdL.x_crossed (by assumption) (by omega) (by omega)) | (omega)) (by omega) ?_
          refine x_iinc4 dX13_plain_149 rfl ?_
          refine x_goto (tgt := 100) dX13_plain_152 rfl ?_
          refine ih3 _ (by omega) ⟨v1.tr (FrW.arr (by omega)), by rw [am_st_o (by omega)]; exact v2, fun a c x0 x1 x2 x3 => by rw [am_st_i (by omega)]; exact v3 a c x0 x1 x2 x3, fun c x0 x1 => by rw [am_st_i (by omega)]; exact v4 c x0 x1, ?_⟩
          rw [am_st_s]
          exact es.symm
  refine x_start okX13_plain rfl rfl rfl rfl ?_
  refine x_iload_1 dX13_plain_0 ?_
  refine x_iconst dX13_plain_1 ?_
  refine x_iconst dX13_plain_2 ?_
  refine x_callS3 dX13_plain_3 rfl okX13_in q1931 q1932 rfl (C_X13_in hw ⟨by decide, by decide⟩ ⟨by decide, by decide⟩ (x_k1 ?_))
  refine x_if_ne (tgt := 11) dX13_plain_6 rfl (by split <;> omega) (fun c6 => ?_) (fun c6 => ?_)
  · refine x_iconst dX13_plain_11 ?_
    refine x_istore_2 dX13_plain_12 rfl ?_
    have hw1 : 0 ≤ w ∧ w ≤ 1 := by split at c6 <;> first | assumption | omega
    refine x_forA (tM T) (fun i hh (z : AV) => FrW h hh o ∧ laidP T hh o i) (fun i hh z => am_X G mX13_plain (d + 12) 13 [aR o, aI w, aI i, z, aU, aU, aU, aU] [] L hh Q) (fun i hh z g0 g1 hP ih => ?_) h aU h7.1 ⟨FrW.rf h o, fun m c y z0 z1 => by omega⟩
    obtain ⟨p1, p2⟩ := hP
    have hM1 := hM.fr p1
    have hlv := hM1.2.2.1
    have hmen := hM1.2.2.2.1
    refine x_iload_2 dX13_plain_13 ?_
    refine x_aload_0 dX13_plain_14 ?_
    refine x_getR dX13_plain_15 fl1598_13 rfl (by first | (exact MdL.k0 (by assumption)) | (assumption)) (by first | (exact MdL.v_men (by assumption)) | (assumption)) ?_
    refine x_aload_0 dX13_plain_18 ?_
    refine x_getI_ dX13_plain_19 fl1592_13 (by first | (exact MdL.k0 (by assumption)) | (assumption)) (fun r19 => ?_)
    rw [hlv] at r19 ⊢
    refine x_iald_ dX13_plain_22 (by first | (exact MdL.k_men (by assumption)) | (assumption)) (by first | (exact MdL.x_men (by assumption) (by omega) (by omega)) | (omega)) (fun r22 => ?_)
    rw [hmen] at r22 ⊢
    refine x_icmp_ge (tgt := 51) dX13_plain_23 rfl (by omega) (by omega) (fun c23 => ?_) (fun c23 => ?_)
    · rw [show i = tM T by omega] at p2
      exact Hcr hh p1 p2 hw1 _ _
    · refine x_iconst dX13_plain_26 ?_
      refine x_istore_3 dX13_plain_27 rfl ?_
      have hi : i < tM T := by omega
      refine x_for 2 (fun c h2 => FrW h h2 o ∧ laidP T h2 o i ∧ ∀ c' y, 0 ≤ c' → c' < c → 0 ≤ y → y < 288 → h2 (o + 46) (288 * (2 * i + c') + y) = plC T i c' (sI y)) (fun c h2 => am_X G mX13_plain (d + 12) 28 [aR o, aI w, aI i, aI c, aU, aU, aU, aU] [] L h2 Q) (fun c h2 y0 y1 hP2 ih2 => ?_) hh (by omega) ⟨p1, p2, fun c' y z0 z1 => by omega⟩
      obtain ⟨u1, u2, u3⟩ := hP2
      refine x_iload_3 dX13_plain_28 ?_
      refine x_iconst dX13_plain_29 ?_
      refine x_icmp_ge (tgt := 45) dX13_plain_30 rfl (by omega) (by omega) (fun c30 => ?_) (fun c30 => ?_)
      · refine x_iinc2 dX13_plain_45 rfl ?_
        refine x_goto (tgt := 13) dX13_plain_48 rfl ?_
        refine ih h2 _ hi ⟨u1, fun m c' y z0 z1 z2 z3 z4 z5 => ?_⟩
        by_cases e : m = i
        · rw [e]
          exact u3 c' y z2 (by omega) z4 z5
        · exact u2 m c' y z0 (by omega) z2 z3 z4 z5
      · refine x_aload_0 dX13_plain_33 ?_
        refine x_iload_2 dX13_plain_34 ?_
        refine x_iload_3 dX13_plain_35 ?_
        refine x_callV2 dX13_plain_36 rfl okX13_walks q2205 q2207 qs111 (by first | assumption | (exact MdL.k0 (by assumption))) am_k13 rfl (C_X13_walks (hM.fr u1) hT ⟨g0, hi⟩ ⟨y0, by omega⟩ (fun h3 f3 r3 k3 => (x_k0 ?_)))
        refine x_iinc3 dX13_plain_39 rfl ?_
        refine x_goto (tgt := 28) dX13_plain_42 rfl ?_
        refine ih2 h3 (by omega) ⟨u1.tr f3, fun m c' y z0 z1 z2 z3 z4 z5 => ?_, fun c' y z0 z1 z2 z3 => ?_⟩
        · rw [k3 _ (by omega)]
          exact u2 m c' y z0 z1 z2 z3 z4 z5
        · by_cases e : c' = c
          · rw [e]
            exact r3 y z2 z3
          · rw [k3 _ (by omega)]
            exact u3 c' y z0 (by omega) z2 z3
  · refine x_iconst dX13_plain_9 ?_
    refine x_iret dX13_plain_10 rfl ?_
    refine x_q1 ?_ (k h (FrW.rf h o))
    unfold plainV
    rw [if_neg (fun z => by rw [if_pos z] at c6; omega)]
end MPLAIN
