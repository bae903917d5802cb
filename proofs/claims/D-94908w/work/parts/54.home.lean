/-! OPERATIONS: home, run -/
set_option maxRecDepth 100000
section HOME
variable {G : am_G} {d : Nat} {L : am_L} {h h' : am_H} {Q : am_O → am_L → am_H → Prop} {x o s t : Int} {g : Sg} {b q : Int}
/-- as long as he may he winds up: the row then, how many -/
noncomputable def homeF (T : Txt) (m : Int) : Nat → Row → Row × Int
  | 0, S => (S, 0)
  | n + 1, S => by
    classical exact if canWind T S m then ((homeF T m n (windR S m)).1, (homeF T m n (windR S m)).2 + 1) else (S, 0)
theorem homeF_t {T : Txt} {m : Int} {S : Row} (n : Nat) (h : canWind T S m) : homeF T m (n + 1) S = ((homeF T m n (windR S m)).1, (homeF T m n (windR S m)).2 + 1) := by
  conv => lhs; unfold homeF
  rw [if_pos h]
theorem homeF_f {T : Txt} {m : Int} {S : Row} (n : Nat) (h : ¬ canWind T S m) : homeF T m (n + 1) S = (S, 0) := by
  conv => lhs; unfold homeF
  rw [if_neg h]
def okHome (g : Sg) (m : Int) : Prop := (0 ≤ m ∧ m < tM (gT g)) ∧ (homeF (gT g) m 61 (gS g)).2 ≠ 0
theorem windR_N {S : Row} {m : Int} : rN (windR S m) m = rN S m - 1 := if_pos rfl
set_option maxHeartbeats 4000000 in
theorem C_X0_home {m : Int} (hC : CoI L h x t g) (hI : SgI g b q) (hb : b ≤ 90000 ∧ q ≤ 90000) (hm : rg32 m) (kt : okHome g m → ∀ h', CoI L h' x t (setS (pushG g) (homeF (gT g) m 61 (gS g)).1) → RowI (gT g) (homeF (gT g) m 61 (gS g)).1 b q → FX h h' x → Q (.inl [aI (homeF (gT g) m 61 (gS g)).2]) L h') (kf : ¬ okHome g m → ∀ h', CoI L h' x t g → FX h h' x → Q (.inl [aI (-1)]) L h') : am_C G mX0_home (d + 430) [aR x, aI m] L h Q := by
  have hT := hI.1
  have hcT := hC.1
  have hK := hcT.mk
  have htx := hcT.tx
  have hht := hcT.ht
  have hcl := hcT.cl
  have htr := hK.trial
  have h7 := hT.1
  refine x_start okX0_home rfl rfl rfl rfl ?_
  refine x_aload_0 dX0_home_0 ?_
  refine x_iload_1 dX0_home_1 ?_
  refine x_callV1 dX0_home_2 rfl okX0_isMan q1192 q1194 qs32 (by first | assumption | (exact MkL.k0 (by assumption))) am_k0 rfl (C_X0_isMan hcT hT hm (x_k1 ?_))
  refine x_if_ne (tgt := 10) dX0_home_5 rfl (by split <;> omega) (fun c5 => ?_) (fun c5 => ?_)
  · have hm1 : 0 ≤ m ∧ m < tM (gT g) := by split at c5 <;> omega
    have bn0 := hI.2.1.n60 hT m hm1.1 (by omega)
    refine x_iconst dX0_home_10 ?_
    refine x_istore_2 dX0_home_11 rfl ?_
    refine x_aload_0 dX0_home_12 ?_
    refine x_getR dX0_home_13 fl579_0 rfl (by first | (exact MkL.k0 (by assumption)) | (assumption)) (by first | (exact MkL.v_trial (by assumption)) | (assumption)) ?_
    refine x_aload_0 dX0_home_16 ?_
    refine x_getR dX0_home_17 fl578_0 rfl (by first | (exact MkL.k0 (by assumption)) | (assumption)) (by first | (exact MkL.v_cloth (by assumption)) | (assumption)) ?_
    refine x_callV1 dX0_home_20 rfl okX5_takes q1237 q1238 q1239 (by first | assumption | (exact ClL.k0 (by assumption))) am_k5 rfl (C_X5_takes hcT.rc htr hI.2.1 hT (by omega) (fun h1 hr1 hf1 => (x_k0 ?_)))
    skip
    suffices H : ∀ (r : Nat) (Sc : Row) (c : Int) (hh : am_H), rN Sc m < r → RC L hh (x + 48) (gT g) Sc → FrS h hh x → RowI (gT g) Sc b q → (0 ≤ c ∧ c + rN Sc m ≤ 60) → homeF (gT g) m 61 (gS g) = ((homeF (gT g) m r Sc).1, (homeF (gT g) m r Sc).2 + c) → am_X G mX0_home (d + 430) 23 [aR x, aI m, aI c] [] L hh Q from H 61 (gS g) 0 h1 (by omega) hr1 hf1.trial hI.2.1 (by omega) (by rw [Int.add_zero])
    intro r
    induction r with
    | zero =>
      intro Sc c hh z1 z2 z3 z4
      have := z4.n60 hT m hm1.1 (by omega)
      omega
    | succ r ih =>
      intro Sc c hh z1 z2 z3 z4 z5 z6
      have hC1 : CoI L hh x t g := hC.fr hT z3
      have bn := z4.n60 hT m hm1.1 (by omega)
      refine x_aload_0 dX0_home_23 ?_
      refine x_getR dX0_home_24 fl579_0 rfl (by first | (exact MkL.k0 (by assumption)) | (assumption)) (by first | (exact MkL.v_trial (by assumption)) | (assumption)) ?_
      refine x_iload_1 dX0_home_27 ?_
      refine x_callV1 dX0_home_28 rfl okX5_winds q1267 q1268 q1269 (by first | assumption | (exact ClL.k0 (by assumption))) am_k5 rfl (C_X5_winds z2 z4 hT hm1 (fun hcan h2 hr2 hf2 => (x_k1 ?_)) (fun hcan => (x_k1 ?_)))
      · rw [homeF_t r hcan] at z6
        have en : rN (windR Sc m) m = rN Sc m - 1 := windR_N
        refine x_if_eq (tgt := 40) dX0_home_31 rfl (by omega) (fun c31 => ?_) (fun c31 => ?_)
        · exact absurd c31 (by decide)
        · refine x_iinc2 dX0_home_34 rfl ?_
          refine x_goto (tgt := 23) dX0_home_37 rfl ?_
          exact ih (windR Sc m) (c + 1) h2 (by omega) hr2 (z3.tr hf2.trial) (z4.wind hT hm1 hcan) (by omega) (by rw [z6]; exact Prod.ext rfl (by show _ + 1 + c = _ + (c + 1); omega))
      · rw [homeF_f r hcan] at z6
        have e1 : (homeF (gT g) m 61 (gS g)).1 = Sc := by rw [z6]
        have e2 : (homeF (gT g) m 61 (gS g)).2 = c := by rw [z6]; show 0 + c = c; omega
        refine x_if_eq (tgt := 40) dX0_home_31 rfl (by omega) (fun c31 => ?_) (fun c31 => ?_)
        · refine x_iload_2 dX0_home_40 ?_
          refine x_if_ne (tgt := 46) dX0_home_41 rfl (by omega) (fun c41 => ?_) (fun c41 => ?_)
          · refine x_aload_0 dX0_home_46 ?_
            refine x_callV0 dX0_home_47 rfl okX0_keeps q1259 q1261 qs34 (by first | assumption | (exact MkL.k0 (by assumption))) am_k0 rfl (C_X0_keeps hC1 hI (fun h3 hC3 e3 f3 => (x_k0 ?_)))
            have hr3 : RC L h3 (x + 48) (gT g) Sc := z2.fr fun a y0 y1 => e3 a (by omega) (by omega)
            have htr2 := hcl
            refine x_aload_0 dX0_home_50 ?_
            refine x_getR dX0_home_51 fl578_0 rfl (by first | (exact MkL.k0 (by assumption)) | (assumption)) (by first | (exact MkL.v_cloth (by assumption)) | (assumption)) ?_
            refine x_aload_0 dX0_home_54 ?_
            refine x_getR dX0_home_55 fl579_0 rfl (by first | (exact MkL.k0 (by assumption)) | (assumption)) (by first | (exact MkL.v_trial (by assumption)) | (assumption)) ?_
            refine x_callV1 dX0_home_58 rfl okX5_takes q1237 q1238 q1239 (by first | assumption | (exact ClL.k0 (by assumption))) am_k5 rfl (C_X5_takes hr3 hcl z4 hT (by omega) (fun h4 hr4 hf4 => (x_k0 ?_)))
            refine x_iload_2 dX0_home_61 ?_
            refine x_iret dX0_home_62 rfl ?_
            rw [← e2]
            refine kt ⟨hm1, by omega⟩ h4 ?_ (by rw [e1]; exact z4) (z3.fx.tr (f3.tr (hf4.fx (by omega))))
            rw [e1]
            exact hC3.setS hr4 hf4
          · refine x_iconst dX0_home_44 ?_
            refine x_iret dX0_home_45 rfl ?_
            exact kf (fun y => y.2 (by omega)) hh hC1 z3.fx
        · exact absurd rfl c31
  · refine x_iconst dX0_home_8 ?_
    refine x_iret dX0_home_9 rfl ?_
    refine kf (fun z => ?_) h hC (fun _ _ => rfl)
    rw [if_pos z.1] at c5
    exact absurd c5 (by decide)
set_option maxHeartbeats 4000000 in
theorem C_X13_home {m : Int} (hC : TwI L h o s g) (hI : SgI g b q) (hb : b ≤ 90000 ∧ q ≤ 90000) (hm : rg32 m) (kt : okHome g m → ∀ h', TwI L h' o s (setS (pushG g) (homeF (gT g) m 61 (gS g)).1) → FO h h' o → Q (.inl [aI (homeF (gT g) m 61 (gS g)).2]) L h') (kf : ¬ okHome g m → ∀ h', TwI L h' o s g → FO h h' o → Q (.inl [aI (-1)]) L h') : am_C G mX13_home (d + 12) [aR o, aI m] L h Q := by
  have hT := hI.1
  have hcT := hC.1
  have hM := hcT.1
  have hL := hM.1
  have h7 := hT.1
  refine x_start okX13_home rfl rfl rfl rfl ?_
  refine x_aload_0 dX13_home_0 ?_
  refine x_iload_1 dX13_home_1 ?_
  refine x_callV1 dX13_home_2 rfl okX13_isMan q1927 q1929 qs80 (by first | assumption | (exact MdL.k0 (by assumption))) am_k13 rfl (C_X13_isMan hM hT hm (x_k1 ?_))
  refine x_if_ne (tgt := 10) dX13_home_5 rfl (by split <;> omega) (fun c5 => ?_) (fun c5 => ?_)
  · have hm1 : 0 ≤ m ∧ m < tM (gT g) := by split at c5 <;> omega
    have bn0 := hI.2.1.n60 hT m hm1.1 (by omega)
    refine x_aload_0 dX13_home_10 ?_
    refine x_callV0 dX13_home_11 rfl okX13_copies q1934 q1936 qs81 (by first | assumption | (exact MdL.k0 (by assumption))) am_k13 rfl (C_X13_copiesR hL hcT.2 hI.2.1 hT (fun h1 e1 f1 e2 e3 => (x_k0 ?_)))
    refine x_iconst dX13_home_14 ?_
    refine x_istore_2 dX13_home_15 rfl ?_
    skip
    suffices H : ∀ (r : Nat) (Sc : Row) (c : Int) (hh : am_H), rN Sc m < r → RwF (hh (o + 38)) (tM (gT g)) Sc → FrW h hh o → RowI (gT g) Sc b q → (0 ≤ c ∧ c + rN Sc m ≤ 60) → homeF (gT g) m 61 (gS g) = ((homeF (gT g) m r Sc).1, (homeF (gT g) m r Sc).2 + c) → am_X G mX13_home (d + 12) 16 [aR o, aI m, aI c] [] L hh Q from H 61 (gS g) 0 h1 (by omega) e2 f1 hI.2.1 (by omega) (by rw [Int.add_zero])
    intro r
    induction r with
    | zero =>
      intro Sc c hh z1 z2 z3 z4
      have := z4.n60 hT m hm1.1 (by omega)
      omega
    | succ r ih =>
      intro Sc c hh z1 z2 z3 z4 z5 z6
      have hC1 : TwI L hh o s g := hC.mv hT z3
      have bn := z4.n60 hT m hm1.1 (by omega)
      refine x_aload_0 dX13_home_16 ?_
      refine x_iload_1 dX13_home_17 ?_
      refine x_callV1 dX13_home_18 rfl okX13_winds q2006 q2008 qs91 (by first | assumption | (exact MdL.k0 (by assumption))) am_k13 rfl (C_X13_winds hC1.1.1 hT hm1 z2 z4 (by omega) (fun hcan h2 r2 f2 => (x_k1 ?_)) (fun hcan => (x_k1 ?_)))
      · rw [homeF_t r hcan] at z6
        have en : rN (windR Sc m) m = rN Sc m - 1 := windR_N
        refine x_if_eq (tgt := 30) dX13_home_21 rfl (by omega) (fun c21 => ?_) (fun c21 => ?_)
        · exact absurd c21 (by decide)
        · refine x_iinc2 dX13_home_24 rfl ?_
          refine x_goto (tgt := 16) dX13_home_27 rfl ?_
          exact ih (windR Sc m) (c + 1) h2 (by omega) r2 (z3.tr fun a i z => by rw [f2 a (by omega)]) (z4.wind hT hm1 hcan) (by omega) (by rw [z6]; exact Prod.ext rfl (by show _ + 1 + c = _ + (c + 1); omega))
      · rw [homeF_f r hcan] at z6
        have e1 : (homeF (gT g) m 61 (gS g)).1 = Sc := by rw [z6]
        have e2 : (homeF (gT g) m 61 (gS g)).2 = c := by rw [z6]; show 0 + c = c; omega
        refine x_if_eq (tgt := 30) dX13_home_21 rfl (by omega) (fun c21 => ?_) (fun c21 => ?_)
        · refine x_iload_2 dX13_home_30 ?_
          refine x_if_ne (tgt := 36) dX13_home_31 rfl (by omega) (fun c31 => ?_) (fun c31 => ?_)
          · refine x_aload_0 dX13_home_36 ?_
            refine x_callV0 dX13_home_37 rfl okX13_keeps q1997 q1999 qs90 (by first | assumption | (exact MdL.k0 (by assumption))) am_k13 rfl (C_X13_keeps hC1 hI z2 z4 (fun h3 hC3 f3 => (x_k0 ?_)))
            refine x_iload_2 dX13_home_40 ?_
            refine x_iret dX13_home_41 rfl ?_
            rw [← e2]
            refine kt ⟨hm1, by omega⟩ h3 ?_ (z3.fo.tr f3)
            rw [e1]
            exact hC3
          · refine x_iconst dX13_home_34 ?_
            refine x_iret dX13_home_35 rfl ?_
            exact kf (fun y => y.2 (by omega)) hh hC1 z3.fo
        · exact absurd rfl c21
  · refine x_iconst dX13_home_8 ?_
    refine x_iret dX13_home_9 rfl ?_
    refine kf (fun z => ?_) h hC (fun _ _ => rfl)
    rw [if_pos z.1] at c5
    exact absurd c5 (by decide)
end HOME
