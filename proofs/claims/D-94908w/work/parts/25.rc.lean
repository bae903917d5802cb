/-! TEXT AND CLOTH, as the component holds them -/
set_option maxRecDepth 100000
theorem am_st_o {h : am_H} {a j v b : Int} (hne : b ≠ a) : am_st h a j v b = h b := by
  funext i
  rw [am_st_at, if_neg (fun z => hne z.1)]
theorem am_st_i {h : am_H} {a j v i : Int} (hne : i ≠ j) : am_st h a j v a i = h a i := by
  rw [am_st_at, if_neg (fun z => hne z.2)]
theorem am_st_s {h : am_H} {a j v : Int} : am_st h a j v a j = v := by
  rw [am_st_at, if_pos ⟨rfl, rfl⟩]
def manA (L : am_L) (t m : Int) : Int := fF L (fF L (fF L t 0) 1) m
/-- the man at a is the m-th of T -/
def ManL (L : am_L) (a : Int) (T : Txt) (m : Int) : Prop :=
  kd L a = 14 ∧ fF L a 3 = tDX T m ∧ fF L a 4 = tDY T m ∧ fF L a 5 = tE T m ∧ fF L a 6 = tDye T m ∧ (kd L (fF L a 1) = 117 ∧ ln L (fF L a 1) = 6 ∧ ∀ k, 0 ≤ k → k < tE T m → fF L (fF L a 1) k = tEX T m k) ∧ (kd L (fF L a 2) = 117 ∧ ln L (fF L a 2) = 6 ∧ ∀ k, 0 ≤ k → k < tE T m → fF L (fF L a 2) k = tEY T m k) ∧
  ((tG T m = none ∧ fF L a 7 = 0) ∨ ∃ la, tG T m = some la ∧ LawAt L (fF L a 7) la)
/-- the Text at t is T -/
def TxL (L : am_L) (t : Int) (T : Txt) : Prop :=
  kd L t = 4 ∧ LsL L (fF L t 0) (tM T) (manA L t) ∧ (∀ m, 0 ≤ m → m < tM T → ManL L (manA L t m) T m) ∧ fF L t 6 = tWide T ∧ fF L t 7 = tDeep T ∧ fF L t 8 = tP T ∧ fF L t 10 = tSeed T ∧
  (kd L (fF L t 1) = 117 ∧ ln L (fF L t 1) = 6 ∧ ∀ p, 0 ≤ p → p < tP T → fF L (fF L t 1) p = tPX T p) ∧ (kd L (fF L t 2) = 117 ∧ ln L (fF L t 2) = 6 ∧ ∀ p, 0 ≤ p → p < tP T → fF L (fF L t 2) p = tPY T p) ∧
  ((tL T = none ∧ fF L t 11 = 0) ∨ ∃ la, tL T = some la ∧ LawAt L (fF L t 11) la)
/-- the cloth at c holds the row S -/
def RC (L : am_L) (h : am_H) (c : Int) (T : Txt) (S : Row) : Prop :=
  ClL L c ∧ (∀ m, 0 ≤ m → m < 7 → h (c + 3) m = rN S m) ∧ (∀ m, 0 ≤ m → m < tM T → h (c + 1) m = rX S m ∧ h (c + 2) m = rY S m ∧ h (c + 4) m = lng T m) ∧
  (∀ m k, 0 ≤ m → m < 7 → 0 ≤ k → k < rN S m → h (c + 6 + m) k = rW S m k ∧ h (c + 14 + m) k = rS S m k ∧ h (c + 22 + m) k = rT S m k) ∧ h c 7 = rL S ∧ h c 8 = rM S ∧ h c 9 = rQ S
/-- nothing but the cloth at c was written -/
def FrC (h h' : am_H) (c : Int) : Prop := ∀ a, (a < c ∨ c + 31 ≤ a) → h' a = h a
theorem FrC.rf (h : am_H) (c : Int) : FrC h h c := fun _ _ => rfl
theorem FrC.tr {h h1 h2 : am_H} {c : Int} (a : FrC h h1 c) (b : FrC h1 h2 c) : FrC h h2 c := fun x hx => (b x hx).trans (a x hx)
theorem FrC.st {h : am_H} {c a j v : Int} (ha : c ≤ a ∧ a < c + 31) : FrC h (am_st h a j v) c := fun x hx => am_st_o (by omega)
/-- the cloth at c is not touched by what is written elsewhere -/
theorem RC.fr {L : am_L} {h h' : am_H} {c : Int} {T : Txt} {S : Row} (r : RC L h c T S) (hf : ∀ a, c ≤ a → a < c + 29 → h' a = h a) : RC L h' c T S := by
  obtain ⟨r1, r2, r3, r4, r5, r6, r7⟩ := r
  refine ⟨r1, fun m h0 h1 => by rw [hf _ (by omega) (by omega)]; exact r2 m h0 h1, fun m h0 h1 => ?_, fun m k h0 h1 h2 h3 => ?_, by rw [hf _ (by omega) (by omega)]; exact r5, by rw [hf _ (by omega) (by omega)]; exact r6, by rw [hf _ (by omega) (by omega)]; exact r7⟩
  · rw [hf (c + 1) (by omega) (by omega), hf (c + 2) (by omega) (by omega), hf (c + 4) (by omega) (by omega)]
    exact r3 m h0 h1
  · rw [hf (c + 6 + m) (by omega) (by omega), hf (c + 14 + m) (by omega) (by omega), hf (c + 22 + m) (by omega) (by omega)]
    exact r4 m k h0 h1 h2 h3
theorem bt_01 (s m : Int) : bt s m = 0 ∨ bt s m = 1 := by
  have h1 : (Int32.ofInt (bShr s m) &&& Int32.ofInt 1).toBitVec.toNat < 2 := by
    have : (Int32.ofInt (bShr s m) &&& Int32.ofInt 1).toBitVec = (Int32.ofInt (bShr s m)).toBitVec &&& 1#32 := rfl
    rw [this, BitVec.toNat_and]
    exact Nat.lt_of_le_of_lt Nat.and_le_right (by decide)
  have e : bt s m = ((Int32.ofInt (bShr s m) &&& Int32.ofInt 1).toBitVec.toNat : Int) := by
    show (Int32.ofInt (bShr s m) &&& Int32.ofInt 1).toBitVec.toInt = _
    exact BitVec.toInt_eq_toNat_of_lt (by omega)
  omega
section RCS
variable {G : am_G} {d : Nat} {L : am_L} {h : am_H} {Q : am_O → am_L → am_H → Prop} {c t b q : Int} {T : Txt} {S : Row}
theorem C_X5_isLost {m : Int} (hr : RC L h c T S) (hm : 0 ≤ m ∧ m < 7) (k : Q (.inl [aI (bt (rL S) m)]) L h) : am_C G mX5_isLost (d + 1) [aR c, aI m] L h Q := by
  obtain ⟨⟨k0, -⟩, -, -, -, e7, -⟩ := hr
  have hb := bt_01 (rL S) m
  refine x_start okX5_isLost rfl rfl rfl rfl ?_
  refine x_aload_0 dX5_isLost_0 ?_
  refine x_getI_ dX5_isLost_1 fl447_5 (by first | (exact ClL.k0 (by assumption)) | (assumption)) (fun r1 => ?_)
  rw [e7] at r1 ⊢
  refine x_iload_1 dX5_isLost_4 ?_
  refine x_ishr dX5_isLost_5 ?_
  refine x_iconst dX5_isLost_6 ?_
  refine x_iand dX5_isLost_7 ?_
  refine x_iconst dX5_isLost_8 ?_
  show am_X G mX5_isLost (d + 1) 9 [aR c, aI m] [aI 1, aI (bt (rL S) m)] L h Q
  refine x_icmp_ne (tgt := 16) dX5_isLost_9 rfl (by omega) (by omega) (fun c9 => ?_) (fun c9 => ?_)
  · refine x_iconst dX5_isLost_16 ?_
    refine x_zret dX5_isLost_17 rfl (by omega) ?_
    refine x_q1 ?_ k
    omega
  · refine x_iconst dX5_isLost_12 ?_
    refine x_goto (tgt := 17) dX5_isLost_13 rfl ?_
    refine x_zret dX5_isLost_17 rfl (by omega) ?_
    refine x_q1 ?_ k
    omega
theorem C_X4_isIn {x y : Int} (hx : rg32 x) (hy : rg32 y) (hT : TxtI T) (ht : TxL L t T) (k : Q (.inl [aI (if 0 ≤ x ∧ x < tWide T ∧ 0 ≤ y ∧ y < tDeep T then 1 else 0)]) L h) : am_C G mX4_isIn (d + 1) [aR t, aI x, aI y] L h Q := by
  obtain ⟨k0, -, -, f6, f7, -⟩ := ht
  refine x_start okX4_isIn rfl rfl rfl rfl ?_
  refine x_iload_1 dX4_isIn_0 ?_
  refine x_if_lt (tgt := 28) dX4_isIn_1 rfl (by omega) (fun c1 => ?_) (fun c1 => ?_)
  · refine x_iconst dX4_isIn_28 ?_
    refine x_zret dX4_isIn_29 rfl (by omega) ?_
    refine x_q1 ?_ k
    (repeat' split) <;> omega
  · refine x_iload_1 dX4_isIn_4 ?_
    refine x_aload_0 dX4_isIn_5 ?_
    refine x_getKI dX4_isIn_6 fl366_4 (by first | (exact TxL.k0 (by assumption)) | (assumption)) (by first | (exact TxL.vW (by assumption)) | (assumption)) (fun r6 => ?_)
    refine x_icmp_ge (tgt := 28) dX4_isIn_9 rfl (by omega) (by omega) (fun c9 => ?_) (fun c9 => ?_)
    · refine x_iconst dX4_isIn_28 ?_
      refine x_zret dX4_isIn_29 rfl (by omega) ?_
      refine x_q1 ?_ k
      (repeat' split) <;> omega
    · refine x_iload_2 dX4_isIn_12 ?_
      refine x_if_lt (tgt := 28) dX4_isIn_13 rfl (by omega) (fun c13 => ?_) (fun c13 => ?_)
      · refine x_iconst dX4_isIn_28 ?_
        refine x_zret dX4_isIn_29 rfl (by omega) ?_
        refine x_q1 ?_ k
        (repeat' split) <;> omega
      · refine x_iload_2 dX4_isIn_16 ?_
        refine x_aload_0 dX4_isIn_17 ?_
        refine x_getKI dX4_isIn_18 fl369_4 (by first | (exact TxL.k0 (by assumption)) | (assumption)) (by first | (exact TxL.vD (by assumption)) | (assumption)) (fun r18 => ?_)
        refine x_icmp_ge (tgt := 28) dX4_isIn_21 rfl (by omega) (by omega) (fun c21 => ?_) (fun c21 => ?_)
        · refine x_iconst dX4_isIn_28 ?_
          refine x_zret dX4_isIn_29 rfl (by omega) ?_
          refine x_q1 ?_ k
          (repeat' split) <;> omega
        · refine x_iconst dX4_isIn_24 ?_
          refine x_goto (tgt := 29) dX4_isIn_25 rfl ?_
          refine x_zret dX4_isIn_29 rfl (by omega) ?_
          refine x_q1 ?_ k
          (repeat' split) <;> omega
set_option maxHeartbeats 4000000 in
theorem C_X5_steps {m w : Int} (hr : RC L h c T S) (hI : RowI T S b q) (hb : b ≤ 100000 ∧ q ≤ 100000) (hT : TxtI T) (ht : TxL L t T) (hm : 0 ≤ m ∧ m < tM T) (hw : 1 ≤ w ∧ w ≤ 4)
    (kt : canStep T S m w → ∀ h', RC L h' c T (stepR S m w) → FrC h h' c → Q (.inl [aI 1]) L h') (kf : ¬ canStep T S m w → Q (.inl [aI 0]) L h) : am_C G mX5_steps (d + 3) [aR c, aR t, aI m, aI w] L h Q := by
  have hr0 := hr
  obtain ⟨⟨k0, f0, f1, f2, f3, f4, f5, f6, f10, k1, l1, k2, l2, k3, l3, k4, l4, k5, l5, k13, l13, k21, l21, fw, fs, ft, k29, f29, k30, l30⟩, rn, rx, rk, r7, r8, r9⟩ := hr
  have kt4 := ht.1
  have hm7 : m < 7 := by have := hT.1; omega
  have en := rn m hm.1 hm7
  obtain ⟨ex, ey, el⟩ := rx m hm.1 hm.2
  have lw := (fw m hm.1 hm7).2.2
  have ls := (fs m hm.1 hm7).2.2
  have lt := (ft m hm.1 hm7).2.2
  have bl := lng_bd hT m
  have bn := (hI.1 m hm.1 hm7).1
  obtain ⟨bx, -⟩ := hI.2.1 m hm.1 hm.2
  have b01 := bt_01 (rL S) m
  have bdx := dX_bd w
  have bdy := dY_bd w
  have hq := hI.2.2.2.2.2.2.2
  have htw := hT.2.1
  have htd := hT.2.2.1
  unfold inT at bx
  have hwr : rg32 w := ⟨by omega, by omega⟩
  refine x_start okX5_steps rfl rfl rfl rfl ?_
  refine x_aload_0 dX5_steps_0 ?_
  refine x_iload_2 dX5_steps_1 ?_
  refine x_callV1 dX5_steps_2 rfl okX5_isLost q1217 q1207 q1208 (by first | first | assumption | exact (fw _ (by omega) (by omega)).2.1 | exact (fs _ (by omega) (by omega)).2.1 | exact (ft _ (by omega) (by omega)).2.1 | (exact ClL.k0 (by assumption))) am_k5 rfl (C_X5_isLost hr0 ⟨hm.1, hm7⟩ (x_k1 ?_))
  refine x_if_ne (tgt := 52) dX5_steps_5 rfl (by omega) (fun c5 => ?_) (fun c5 => ?_)
  · refine x_iconst dX5_steps_52 ?_
    refine x_zret dX5_steps_53 rfl (by omega) ?_
    refine kf ?_
    unfold canStep inT
    first | omega | (split at c49 <;> omega)
  · refine x_aload_0 dX5_steps_8 ?_
    refine x_getR dX5_steps_9 fl435_5 rfl (by first | (exact ClL.k0 (by assumption)) | (first | assumption | exact (fw _ (by omega) (by omega)).2.1 | exact (fs _ (by omega) (by omega)).2.1 | exact (ft _ (by omega) (by omega)).2.1)) (by first | (exact ClL.f2 (by assumption)) | (first | assumption | exact (fw _ (by omega) (by omega)).1 | exact (fs _ (by omega) (by omega)).1 | exact (ft _ (by omega) (by omega)).1)) ?_
    refine x_iload_2 dX5_steps_12 ?_
    refine x_iald_ dX5_steps_13 (by first | (exact ClL.k3 (by assumption)) | (first | assumption | exact (fw _ (by omega) (by omega)).2.1 | exact (fs _ (by omega) (by omega)).2.1 | exact (ft _ (by omega) (by omega)).2.1)) (by first | (exact ClL.r3 (by assumption) (by omega) (by omega)) | (omega)) (fun r13 => ?_)
    rw [en] at r13 ⊢
    refine x_aload_0 dX5_steps_14 ?_
    refine x_getR dX5_steps_15 fl439_5 rfl (by first | (exact ClL.k0 (by assumption)) | (first | assumption | exact (fw _ (by omega) (by omega)).2.1 | exact (fs _ (by omega) (by omega)).2.1 | exact (ft _ (by omega) (by omega)).2.1)) (by first | (exact ClL.f3 (by assumption)) | (first | assumption | exact (fw _ (by omega) (by omega)).1 | exact (fs _ (by omega) (by omega)).1 | exact (ft _ (by omega) (by omega)).1)) ?_
    refine x_iload_2 dX5_steps_18 ?_
    refine x_iald_ dX5_steps_19 (by first | (exact ClL.k4 (by assumption)) | (first | assumption | exact (fw _ (by omega) (by omega)).2.1 | exact (fs _ (by omega) (by omega)).2.1 | exact (ft _ (by omega) (by omega)).2.1)) (by first | (exact ClL.r4 (by assumption) (by omega) (by omega)) | (omega)) (fun r19 => ?_)
    rw [el] at r19 ⊢
    refine x_icmp_eq (tgt := 52) dX5_steps_20 rfl (by omega) (by omega) (fun c20 => ?_) (fun c20 => ?_)
    · refine x_iconst dX5_steps_52 ?_
      refine x_zret dX5_steps_53 rfl (by omega) ?_
      refine kf ?_
      unfold canStep inT
      first | omega | (split at c49 <;> omega)
    · refine x_aload_1 dX5_steps_23 ?_
      refine x_aload_0 dX5_steps_24 ?_
      refine x_getR dX5_steps_25 fl431_5 rfl (by first | (exact ClL.k0 (by assumption)) | (first | assumption | exact (fw _ (by omega) (by omega)).2.1 | exact (fs _ (by omega) (by omega)).2.1 | exact (ft _ (by omega) (by omega)).2.1)) (by first | (exact ClL.f0 (by assumption)) | (first | assumption | exact (fw _ (by omega) (by omega)).1 | exact (fs _ (by omega) (by omega)).1 | exact (ft _ (by omega) (by omega)).1)) ?_
      refine x_iload_2 dX5_steps_28 ?_
      refine x_iald_ dX5_steps_29 (by first | (exact ClL.k1 (by assumption)) | (first | assumption | exact (fw _ (by omega) (by omega)).2.1 | exact (fs _ (by omega) (by omega)).2.1 | exact (ft _ (by omega) (by omega)).2.1)) (by first | (exact ClL.r1 (by assumption) (by omega) (by omega)) | (omega)) (fun r29 => ?_)
      rw [ex] at r29 ⊢
      refine x_iload_3 dX5_steps_30 ?_
      refine x_callSN1 dX5_steps_31 rfl okX0_byX q1246 q1247 rfl (C_X0_byX hwr (x_k1 ?_))
      refine x_iadd dX5_steps_34 ?_
      refine x_aload_0 dX5_steps_35 ?_
      refine x_getR dX5_steps_36 fl433_5 rfl (by first | (exact ClL.k0 (by assumption)) | (first | assumption | exact (fw _ (by omega) (by omega)).2.1 | exact (fs _ (by omega) (by omega)).2.1 | exact (ft _ (by omega) (by omega)).2.1)) (by first | (exact ClL.f1 (by assumption)) | (first | assumption | exact (fw _ (by omega) (by omega)).1 | exact (fs _ (by omega) (by omega)).1 | exact (ft _ (by omega) (by omega)).1)) ?_
      refine x_iload_2 dX5_steps_39 ?_
      refine x_iald_ dX5_steps_40 (by first | (exact ClL.k2 (by assumption)) | (first | assumption | exact (fw _ (by omega) (by omega)).2.1 | exact (fs _ (by omega) (by omega)).2.1 | exact (ft _ (by omega) (by omega)).2.1)) (by first | (exact ClL.r2 (by assumption) (by omega) (by omega)) | (omega)) (fun r40 => ?_)
      rw [ey] at r40 ⊢
      refine x_iload_3 dX5_steps_41 ?_
      refine x_callSN1 dX5_steps_42 rfl okX0_byY q1249 q1250 rfl (C_X0_byY hwr (x_k1 ?_))
      refine x_iadd dX5_steps_45 ?_
      refine x_callV2 dX5_steps_46 rfl okX4_isIn q1252 q1181 q1182 (by first | first | assumption | exact (fw _ (by omega) (by omega)).2.1 | exact (fs _ (by omega) (by omega)).2.1 | exact (ft _ (by omega) (by omega)).2.1 | (exact TxL.k0 (by assumption))) am_k4 rfl (C_X4_isIn (x := rX S m + dX w) (y := rY S m + dY w) ⟨by omega, by omega⟩ ⟨by omega, by omega⟩ hT ht (x_k1 ?_))
      refine x_if_ne (tgt := 54) dX5_steps_49 rfl (by split <;> exact ⟨by decide, by decide⟩) (fun c49 => ?_) (fun c49 => ?_)
      · have hcan : canStep T S m w := by
          unfold canStep inT
          split at c49 <;> omega
        have hin := hcan.2.2
        unfold inT at hin
        refine x_aload_0 dX5_steps_54 ?_
        refine x_getR dX5_steps_55 fl442_5 rfl (by first | (exact ClL.k0 (by assumption)) | (first | assumption | exact (fw _ (by omega) (by omega)).2.1 | exact (fs _ (by omega) (by omega)).2.1 | exact (ft _ (by omega) (by omega)).2.1)) (by first | (exact ClL.f4 (by assumption)) | (first | assumption | exact (fw _ (by omega) (by omega)).1 | exact (fs _ (by omega) (by omega)).1 | exact (ft _ (by omega) (by omega)).1)) ?_
        refine x_iload_2 dX5_steps_58 ?_
        refine x_aald dX5_steps_59 (by first | (exact ClL.k5 (by assumption)) | (first | assumption | exact (fw _ (by omega) (by omega)).2.1 | exact (fs _ (by omega) (by omega)).2.1 | exact (ft _ (by omega) (by omega)).2.1)) (by decide) (by decide) (by first | (exact ClL.r5 (by assumption) (by omega) (by omega)) | (omega)) (by first | (exact ClL.fw (by assumption) (by omega) (by omega)) | (first | assumption | exact (fw _ (by omega) (by omega)).1 | exact (fs _ (by omega) (by omega)).1 | exact (ft _ (by omega) (by omega)).1)) ?_
        refine x_aload_0 dX5_steps_60 ?_
        refine x_getR dX5_steps_61 fl435_5 rfl (by first | (exact ClL.k0 (by assumption)) | (first | assumption | exact (fw _ (by omega) (by omega)).2.1 | exact (fs _ (by omega) (by omega)).2.1 | exact (ft _ (by omega) (by omega)).2.1)) (by first | (exact ClL.f2 (by assumption)) | (first | assumption | exact (fw _ (by omega) (by omega)).1 | exact (fs _ (by omega) (by omega)).1 | exact (ft _ (by omega) (by omega)).1)) ?_
        refine x_iload_2 dX5_steps_64 ?_
        refine x_iald_ dX5_steps_65 (by first | (exact ClL.k3 (by assumption)) | (first | assumption | exact (fw _ (by omega) (by omega)).2.1 | exact (fs _ (by omega) (by omega)).2.1 | exact (ft _ (by omega) (by omega)).2.1)) (by first | (exact ClL.r3 (by assumption) (by omega) (by omega)) | (omega)) (fun r65 => ?_)
        rw [en] at r65 ⊢
        refine x_iload_3 dX5_steps_66 ?_
        refine x_iast_ dX5_steps_67 (by first | (exact ClL.kw (by assumption) (by omega) (by omega)) | (first | assumption | exact (fw _ (by omega) (by omega)).2.1 | exact (fs _ (by omega) (by omega)).2.1 | exact (ft _ (by omega) (by omega)).2.1)) (by first | (exact ClL.rw (by assumption) (by omega) (by omega) (by omega) (by omega)) | (omega)) (by omega) ?_
        refine x_aload_0 dX5_steps_68 ?_
        refine x_getR dX5_steps_69 fl444_5 rfl (by first | (exact ClL.k0 (by assumption)) | (first | assumption | exact (fw _ (by omega) (by omega)).2.1 | exact (fs _ (by omega) (by omega)).2.1 | exact (ft _ (by omega) (by omega)).2.1)) (by first | (exact ClL.f5 (by assumption)) | (first | assumption | exact (fw _ (by omega) (by omega)).1 | exact (fs _ (by omega) (by omega)).1 | exact (ft _ (by omega) (by omega)).1)) ?_
        refine x_iload_2 dX5_steps_72 ?_
        refine x_aald dX5_steps_73 (by first | (exact ClL.k13 (by assumption)) | (first | assumption | exact (fw _ (by omega) (by omega)).2.1 | exact (fs _ (by omega) (by omega)).2.1 | exact (ft _ (by omega) (by omega)).2.1)) (by decide) (by decide) (by first | (exact ClL.r13 (by assumption) (by omega) (by omega)) | (omega)) (by first | (exact ClL.fs (by assumption) (by omega) (by omega)) | (first | assumption | exact (fw _ (by omega) (by omega)).1 | exact (fs _ (by omega) (by omega)).1 | exact (ft _ (by omega) (by omega)).1)) ?_
        refine x_aload_0 dX5_steps_74 ?_
        refine x_getR dX5_steps_75 fl435_5 rfl (by first | (exact ClL.k0 (by assumption)) | (first | assumption | exact (fw _ (by omega) (by omega)).2.1 | exact (fs _ (by omega) (by omega)).2.1 | exact (ft _ (by omega) (by omega)).2.1)) (by first | (exact ClL.f2 (by assumption)) | (first | assumption | exact (fw _ (by omega) (by omega)).1 | exact (fs _ (by omega) (by omega)).1 | exact (ft _ (by omega) (by omega)).1)) ?_
        refine x_iload_2 dX5_steps_78 ?_
        refine x_iald_ dX5_steps_79 (by first | (exact ClL.k3 (by assumption)) | (first | assumption | exact (fw _ (by omega) (by omega)).2.1 | exact (fs _ (by omega) (by omega)).2.1 | exact (ft _ (by omega) (by omega)).2.1)) (by first | (exact ClL.r3 (by assumption) (by omega) (by omega)) | (omega)) (fun r79 => ?_)
        simp (disch := omega) only [am_st_o] at r79 ⊢
        rw [en] at r79 ⊢
        refine x_aload_0 dX5_steps_80 ?_
        refine x_getR dX5_steps_81 fl431_5 rfl (by first | (exact ClL.k0 (by assumption)) | (first | assumption | exact (fw _ (by omega) (by omega)).2.1 | exact (fs _ (by omega) (by omega)).2.1 | exact (ft _ (by omega) (by omega)).2.1)) (by first | (exact ClL.f0 (by assumption)) | (first | assumption | exact (fw _ (by omega) (by omega)).1 | exact (fs _ (by omega) (by omega)).1 | exact (ft _ (by omega) (by omega)).1)) ?_
        refine x_iload_2 dX5_steps_84 ?_
        refine x_iald_ dX5_steps_85 (by first | (exact ClL.k1 (by assumption)) | (first | assumption | exact (fw _ (by omega) (by omega)).2.1 | exact (fs _ (by omega) (by omega)).2.1 | exact (ft _ (by omega) (by omega)).2.1)) (by first | (exact ClL.r1 (by assumption) (by omega) (by omega)) | (omega)) (fun r85 => ?_)
        simp (disch := omega) only [am_st_o] at r85 ⊢
        rw [ex] at r85 ⊢
        refine x_aload_0 dX5_steps_86 ?_
        refine x_getR dX5_steps_87 fl433_5 rfl (by first | (exact ClL.k0 (by assumption)) | (first | assumption | exact (fw _ (by omega) (by omega)).2.1 | exact (fs _ (by omega) (by omega)).2.1 | exact (ft _ (by omega) (by omega)).2.1)) (by first | (exact ClL.f1 (by assumption)) | (first | assumption | exact (fw _ (by omega) (by omega)).1 | exact (fs _ (by omega) (by omega)).1 | exact (ft _ (by omega) (by omega)).1)) ?_
        refine x_iload_2 dX5_steps_90 ?_
        refine x_iald_ dX5_steps_91 (by first | (exact ClL.k2 (by assumption)) | (first | assumption | exact (fw _ (by omega) (by omega)).2.1 | exact (fs _ (by omega) (by omega)).2.1 | exact (ft _ (by omega) (by omega)).2.1)) (by first | (exact ClL.r2 (by assumption) (by omega) (by omega)) | (omega)) (fun r91 => ?_)
        simp (disch := omega) only [am_st_o] at r91 ⊢
        rw [ey] at r91 ⊢
        refine x_iload_3 dX5_steps_92 ?_
        refine x_callSN3 dX5_steps_93 rfl okX0_streetOf q1253 q1254 rfl (C_X0_streetOf (x := rX S m) (y := rY S m) ⟨by omega, by omega⟩ ⟨by omega, by omega⟩ hwr (x_k1 ?_))
        refine x_iast_ dX5_steps_96 (by first | (exact ClL.ks (by assumption) (by omega) (by omega)) | (first | assumption | exact (fw _ (by omega) (by omega)).2.1 | exact (fs _ (by omega) (by omega)).2.1 | exact (ft _ (by omega) (by omega)).2.1)) (by first | (exact ClL.rs (by assumption) (by omega) (by omega) (by omega) (by omega)) | (omega)) (by unfold stO; (repeat' split) <;> omega) ?_
        refine x_aload_0 dX5_steps_97 ?_
        refine x_getR dX5_steps_98 fl446_5 rfl (by first | (exact ClL.k0 (by assumption)) | (first | assumption | exact (fw _ (by omega) (by omega)).2.1 | exact (fs _ (by omega) (by omega)).2.1 | exact (ft _ (by omega) (by omega)).2.1)) (by first | (exact ClL.f6 (by assumption)) | (first | assumption | exact (fw _ (by omega) (by omega)).1 | exact (fs _ (by omega) (by omega)).1 | exact (ft _ (by omega) (by omega)).1)) ?_
        refine x_iload_2 dX5_steps_101 ?_
        refine x_aald dX5_steps_102 (by first | (exact ClL.k21 (by assumption)) | (first | assumption | exact (fw _ (by omega) (by omega)).2.1 | exact (fs _ (by omega) (by omega)).2.1 | exact (ft _ (by omega) (by omega)).2.1)) (by decide) (by decide) (by first | (exact ClL.r21 (by assumption) (by omega) (by omega)) | (omega)) (by first | (exact ClL.ft (by assumption) (by omega) (by omega)) | (first | assumption | exact (fw _ (by omega) (by omega)).1 | exact (fs _ (by omega) (by omega)).1 | exact (ft _ (by omega) (by omega)).1)) ?_
        refine x_aload_0 dX5_steps_103 ?_
        refine x_getR dX5_steps_104 fl435_5 rfl (by first | (exact ClL.k0 (by assumption)) | (first | assumption | exact (fw _ (by omega) (by omega)).2.1 | exact (fs _ (by omega) (by omega)).2.1 | exact (ft _ (by omega) (by omega)).2.1)) (by first | (exact ClL.f2 (by assumption)) | (first | assumption | exact (fw _ (by omega) (by omega)).1 | exact (fs _ (by omega) (by omega)).1 | exact (ft _ (by omega) (by omega)).1)) ?_
        refine x_iload_2 dX5_steps_107 ?_
        refine x_iald_ dX5_steps_108 (by first | (exact ClL.k3 (by assumption)) | (first | assumption | exact (fw _ (by omega) (by omega)).2.1 | exact (fs _ (by omega) (by omega)).2.1 | exact (ft _ (by omega) (by omega)).2.1)) (by first | (exact ClL.r3 (by assumption) (by omega) (by omega)) | (omega)) (fun r108 => ?_)
        simp (disch := omega) only [am_st_o] at r108 ⊢
        rw [en] at r108 ⊢
        refine x_aload_0 dX5_steps_109 ?_
        refine x_getI_ dX5_steps_110 fl452_5 (by first | (exact ClL.k0 (by assumption)) | (first | assumption | exact (fw _ (by omega) (by omega)).2.1 | exact (fs _ (by omega) (by omega)).2.1 | exact (ft _ (by omega) (by omega)).2.1)) (fun r110 => ?_)
        simp (disch := omega) only [am_st_o] at r110 ⊢
        rw [r9] at r110 ⊢
        refine x_iast_ dX5_steps_113 (by first | (exact ClL.kt (by assumption) (by omega) (by omega)) | (first | assumption | exact (fw _ (by omega) (by omega)).2.1 | exact (fs _ (by omega) (by omega)).2.1 | exact (ft _ (by omega) (by omega)).2.1)) (by first | (exact ClL.rt (by assumption) (by omega) (by omega) (by omega) (by omega)) | (omega)) (by omega) ?_
        refine x_aload_0 dX5_steps_114 ?_
        refine x_getR dX5_steps_115 fl435_5 rfl (by first | (exact ClL.k0 (by assumption)) | (first | assumption | exact (fw _ (by omega) (by omega)).2.1 | exact (fs _ (by omega) (by omega)).2.1 | exact (ft _ (by omega) (by omega)).2.1)) (by first | (exact ClL.f2 (by assumption)) | (first | assumption | exact (fw _ (by omega) (by omega)).1 | exact (fs _ (by omega) (by omega)).1 | exact (ft _ (by omega) (by omega)).1)) ?_
        refine x_iload_2 dX5_steps_118 ?_
        refine x_dup2 dX5_steps_119 rfl rfl ?_
        refine x_iald_ dX5_steps_120 (by first | (exact ClL.k3 (by assumption)) | (first | assumption | exact (fw _ (by omega) (by omega)).2.1 | exact (fs _ (by omega) (by omega)).2.1 | exact (ft _ (by omega) (by omega)).2.1)) (by first | (exact ClL.r3 (by assumption) (by omega) (by omega)) | (omega)) (fun r120 => ?_)
        simp (disch := omega) only [am_st_o] at r120 ⊢
        rw [en] at r120 ⊢
        refine x_iconst dX5_steps_121 ?_
        refine x_iadd dX5_steps_122 ?_
        refine x_iast_ dX5_steps_123 (by first | (exact ClL.k3 (by assumption)) | (first | assumption | exact (fw _ (by omega) (by omega)).2.1 | exact (fs _ (by omega) (by omega)).2.1 | exact (ft _ (by omega) (by omega)).2.1)) (by first | (exact ClL.r3 (by assumption) (by omega) (by omega)) | (omega)) (by omega) ?_
        refine x_aload_0 dX5_steps_124 ?_
        refine x_dup dX5_steps_125 rfl ?_
        refine x_getI_ dX5_steps_126 fl452_5 (by first | (exact ClL.k0 (by assumption)) | (first | assumption | exact (fw _ (by omega) (by omega)).2.1 | exact (fs _ (by omega) (by omega)).2.1 | exact (ft _ (by omega) (by omega)).2.1)) (fun r126 => ?_)
        simp (disch := omega) only [am_st_o] at r126 ⊢
        rw [r9] at r126 ⊢
        refine x_iconst dX5_steps_129 ?_
        refine x_iadd dX5_steps_130 ?_
        refine x_putI_ dX5_steps_131 fl452_5 (by first | (exact ClL.k0 (by assumption)) | (first | assumption | exact (fw _ (by omega) (by omega)).2.1 | exact (fs _ (by omega) (by omega)).2.1 | exact (ft _ (by omega) (by omega)).2.1)) (by omega) ?_
        refine x_aload_0 dX5_steps_134 ?_
        refine x_getR dX5_steps_135 fl431_5 rfl (by first | (exact ClL.k0 (by assumption)) | (first | assumption | exact (fw _ (by omega) (by omega)).2.1 | exact (fs _ (by omega) (by omega)).2.1 | exact (ft _ (by omega) (by omega)).2.1)) (by first | (exact ClL.f0 (by assumption)) | (first | assumption | exact (fw _ (by omega) (by omega)).1 | exact (fs _ (by omega) (by omega)).1 | exact (ft _ (by omega) (by omega)).1)) ?_
        refine x_iload_2 dX5_steps_138 ?_
        refine x_dup2 dX5_steps_139 rfl rfl ?_
        refine x_iald_ dX5_steps_140 (by first | (exact ClL.k1 (by assumption)) | (first | assumption | exact (fw _ (by omega) (by omega)).2.1 | exact (fs _ (by omega) (by omega)).2.1 | exact (ft _ (by omega) (by omega)).2.1)) (by first | (exact ClL.r1 (by assumption) (by omega) (by omega)) | (omega)) (fun r140 => ?_)
        simp (disch := omega) only [am_st_o] at r140 ⊢
        rw [ex] at r140 ⊢
        refine x_iload_3 dX5_steps_141 ?_
        refine x_callSN1 dX5_steps_142 rfl okX0_byX q1246 q1247 rfl (C_X0_byX hwr (x_k1 ?_))
        refine x_iadd dX5_steps_145 ?_
        refine x_iast_ dX5_steps_146 (by first | (exact ClL.k1 (by assumption)) | (first | assumption | exact (fw _ (by omega) (by omega)).2.1 | exact (fs _ (by omega) (by omega)).2.1 | exact (ft _ (by omega) (by omega)).2.1)) (by first | (exact ClL.r1 (by assumption) (by omega) (by omega)) | (omega)) (by omega) ?_
        refine x_aload_0 dX5_steps_147 ?_
        refine x_getR dX5_steps_148 fl433_5 rfl (by first | (exact ClL.k0 (by assumption)) | (first | assumption | exact (fw _ (by omega) (by omega)).2.1 | exact (fs _ (by omega) (by omega)).2.1 | exact (ft _ (by omega) (by omega)).2.1)) (by first | (exact ClL.f1 (by assumption)) | (first | assumption | exact (fw _ (by omega) (by omega)).1 | exact (fs _ (by omega) (by omega)).1 | exact (ft _ (by omega) (by omega)).1)) ?_
        refine x_iload_2 dX5_steps_151 ?_
        refine x_dup2 dX5_steps_152 rfl rfl ?_
        refine x_iald_ dX5_steps_153 (by first | (exact ClL.k2 (by assumption)) | (first | assumption | exact (fw _ (by omega) (by omega)).2.1 | exact (fs _ (by omega) (by omega)).2.1 | exact (ft _ (by omega) (by omega)).2.1)) (by first | (exact ClL.r2 (by assumption) (by omega) (by omega)) | (omega)) (fun r153 => ?_)
        simp (disch := omega) only [am_st_o] at r153 ⊢
        rw [ey] at r153 ⊢
        refine x_iload_3 dX5_steps_154 ?_
        refine x_callSN1 dX5_steps_155 rfl okX0_byY q1249 q1250 rfl (C_X0_byY hwr (x_k1 ?_))
        refine x_iadd dX5_steps_158 ?_
        refine x_iast_ dX5_steps_159 (by first | (exact ClL.k2 (by assumption)) | (first | assumption | exact (fw _ (by omega) (by omega)).2.1 | exact (fs _ (by omega) (by omega)).2.1 | exact (ft _ (by omega) (by omega)).2.1)) (by first | (exact ClL.r2 (by assumption) (by omega) (by omega)) | (omega)) (by omega) ?_
        refine x_iconst dX5_steps_160 ?_
        refine x_zret dX5_steps_161 rfl (by omega) ?_
        refine kt hcan _ ⟨hr0.1, fun o h0 h1 => ?_, fun o h0 h1 => ?_, fun o j h0 h1 h2 h3 => ?_, ?_, ?_, ?_⟩ ?_
        · have := rn o h0 h1
          simp (disch := omega) only [am_st_o, am_st_at, true_and]
          show _ = up1 (rN S) m (rN S m + 1) o
          unfold up1
          (repeat' split) <;> omega
        · obtain ⟨a1, a2, a3⟩ := rx o h0 h1
          simp (disch := omega) only [am_st_o, am_st_at, true_and]
          show _ = up1 (rX S) m (rX S m + dX w) o ∧ _ = up1 (rY S) m (rY S m + dY w) o ∧ _
          unfold up1
          refine ⟨?_, ?_, ?_⟩ <;> (repeat' split) <;> omega
        · have h3' : j < up1 (rN S) m (rN S m + 1) o := h3
          unfold up1 at h3'
          show _ = up2 (rW S) m (rN S m) w o j ∧ _ = up2 (rS S) m (rN S m) (stO (rX S m) (rY S m) w) o j ∧ _ = up2 (rT S) m (rN S m) (rQ S) o j
          unfold up2
          simp (disch := omega) only [am_st_o, am_st_at, true_and]
          by_cases e : o = m ∧ j = rN S m
          · obtain ⟨rfl, rfl⟩ := e
            refine ⟨?_, ?_, ?_⟩ <;> (repeat' split) <;> omega
          · have h9 : j < rN S o := by
              by_cases ho : o = m
              · subst ho
                rw [if_pos rfl] at h3'
                omega
              · rw [if_neg ho] at h3'
                exact h3'
            obtain ⟨a1, a2, a3⟩ := rk o j h0 h1 h2 h9
            refine ⟨?_, ?_, ?_⟩ <;> (repeat' split) <;> omega
        · simp (disch := omega) only [am_st_o, am_st_i]
          exact r7
        · simp (disch := omega) only [am_st_o, am_st_i]
          exact r8
        · simp (disch := omega) only [am_st_o, am_st_s]
          rfl
        · intro a ha
          simp (disch := omega) only [am_st_o]
      · refine x_iconst dX5_steps_52 ?_
        refine x_zret dX5_steps_53 rfl (by omega) ?_
        refine kf ?_
        unfold canStep inT
        first | omega | (split at c49 <;> omega)
end RCS
