/-! THE TWIN READS: all tokens -/
set_option maxRecDepth 100000
section MTOK2
variable {G : am_G} {L : am_L} {h : am_H} {o D : Int} {b : Int → Int} {d : Nat} {Q : am_O → am_L → am_H → Prop}
theorem C_X13_appendsL {f : Int → Int} {n : Nat} (hc : 97 ≤ f n ∧ f n ≤ 122) (k : Q (.inl [aL (idN f (n + 1))]) L h) : am_C G mX13_appends (d + 1) [aL (idN f n), aI (f n)] L h Q := by
  refine C_X13_appends (by omega) ?_
  have e : apN (idN f n) (f n) = idN f (n + 1) := by
    unfold apN
    rw [if_neg (by omega)]
    show 27 * idN f n + (f n - 97 + 1) = 27 * idN f n + (f n - 96)
    omega
  rw [e]
  exact k
set_option maxHeartbeats 2000000 in
theorem C_X13_cut0 (hL : MdL L o) (hT : TxB h o D b) (hKy : ∀ w, 0 ≤ w → w < 17 → h (o + 7) w = kwN w) (k : ∀ h' n, (0 ≤ n ∧ n ≤ 401) → TkM h' o b D n → (n = 401 ∨ (0 < n ∧ sK b D (n - 1) = 0)) → (∀ a, a ≠ o → (a < o + 3 ∨ o + 6 < a) → h' a = h a) → (∀ j, j ≠ 10 → h' o j = h o j) → h' (o + 3) 401 = h (o + 3) 401 → Q (.inl []) L h') : am_C G mX13_cut0 (d + 6) [aR o] L h Q := by
  have hD := hT.2.1
  have main : ∀ (f : Nat) (p n : Int) (hh : am_H), D - p < f → (0 ≤ p ∧ p ≤ D) → (0 ≤ n ∧ n ≤ 401) → TxB hh o D b → hh o 10 = n → TkM hh o b D n → spn isW b D 2001 p = sP b D n →
      (∀ a, a ≠ o → (a < o + 3 ∨ o + 6 < a) → hh a = h a) → (∀ j, j ≠ 10 → hh o j = h o j) → hh (o + 3) 401 = h (o + 3) 401 → am_X G mX13_cut0 (d + 6) 7 [aR o, aI p, aU, aU, aU, aU, aU, aU] [] L hh Q := by
    intro f
    induction f with
    | zero => intro p n hh c1 c2; omega
    | succ f ih =>
      intro p n hh i1 i2 i3 i5 i6 i7 i9 i11 i12 i13
      have hu := u8A_rg i5 i2.1
      have hky : ∀ w, 0 ≤ w → w < 17 → hh (o + 7) w = kwN w := fun w z0 z1 => by
        rw [i11 _ (by omega) (by omega)]
        exact hKy w z0 z1
      rcases Int.lt_or_le 400 n with hn4 | hn4
      · skip
        refine x_aload_0 dX13_cut0_7 ?_
        refine x_getI_ dX13_cut0_8 fl1584_13 (by first | (exact MdL.k0 (by assumption)) | (assumption)) (fun r8 => ?_)
        rw [i6] at r8 ⊢
        refine x_sipush dX13_cut0_11 rfl ?_
        refine x_icmp_gt (tgt := 294) dX13_cut0_14 rfl (by omega) (by omega) (fun c14 => ?_) (fun c14 => ?_)
        · refine x_ret dX13_cut0_294 rfl ?_
          exact k hh n i3 i7 (Or.inl (by omega)) i11 i12 i13
        · exfalso; omega
      · by_cases hp : p < D
        · have e8 : u8A b D p = u8 (b p) := if_pos hp
          have t4 := i5.2.2.2 p i2.1 hp
          by_cases hw : isW (b p) = true
          · have hskip := spn_skip (q := isW) (b := b) i2.1 hD.2 ⟨hp, hw⟩
            have hw' : u8A b D p = 32 ∨ u8A b D p = 9 ∨ u8A b D p = 10 ∨ u8A b D p = 13 := by
              rw [← u8_W t4, ← e8] at hw
              exact of_decide_eq_true hw
            refine x_aload_0 dX13_cut0_7 ?_
            refine x_getI_ dX13_cut0_8 fl1584_13 (by first | (exact MdL.k0 (by assumption)) | (assumption)) (fun r8 => ?_)
            rw [i6] at r8 ⊢
            refine x_sipush dX13_cut0_11 rfl ?_
            refine x_icmp_gt (tgt := 294) dX13_cut0_14 rfl (by omega) (by omega) (fun c14 => ?_) (fun c14 => ?_)
            · exfalso; omega
            · refine x_aload_0 dX13_cut0_17 ?_
              refine x_iload_1 dX13_cut0_18 ?_
              refine x_callV1 dX13_cut0_19 rfl okX13_byteAt q1821 q1823 qs57 (by first | assumption | (exact MdL.k0 (by assumption))) am_k13 rfl (C_X13_byteAt hL i5 (by omega) (x_k1 ?_))
              refine x_istore_2 dX13_cut0_22 rfl ?_
              refine x_iload_1 dX13_cut0_23 ?_
              refine x_aload_0 dX13_cut0_24 ?_
              refine x_getI_ dX13_cut0_25 fl1578_13 (by first | (exact MdL.k0 (by assumption)) | (assumption)) (fun r25 => ?_)
              rw [i5.1] at r25 ⊢
              refine x_icmp_lt (tgt := 43) dX13_cut0_28 rfl (by omega) (by omega) (fun c28 => ?_) (fun c28 => ?_)
              · refine x_iload_2 dX13_cut0_43 ?_
                refine x_bipush dX13_cut0_44 rfl ?_
                refine x_icmp_eq (tgt := 67) dX13_cut0_46 rfl (by omega) (by omega) (fun c46 => ?_) (fun c46 => ?_)
                · refine x_iinc1 dX13_cut0_67 rfl ?_
                  refine x_goto (tgt := 291) dX13_cut0_70 rfl ?_
                  refine x_goto (tgt := 7) dX13_cut0_291 rfl ?_
                  exact x_wk (by simp [wkL, aU]) <| ih (p + 1) n hh (by omega) (by omega) i3 i5 i6 i7 (by rw [← hskip]; exact i9) i11 i12 i13
                · refine x_iload_2 dX13_cut0_49 ?_
                  refine x_bipush dX13_cut0_50 rfl ?_
                  refine x_icmp_eq (tgt := 67) dX13_cut0_52 rfl (by omega) (by omega) (fun c52 => ?_) (fun c52 => ?_)
                  · refine x_iinc1 dX13_cut0_67 rfl ?_
                    refine x_goto (tgt := 291) dX13_cut0_70 rfl ?_
                    refine x_goto (tgt := 7) dX13_cut0_291 rfl ?_
                    exact x_wk (by simp [wkL, aU]) <| ih (p + 1) n hh (by omega) (by omega) i3 i5 i6 i7 (by rw [← hskip]; exact i9) i11 i12 i13
                  · refine x_iload_2 dX13_cut0_55 ?_
                    refine x_bipush dX13_cut0_56 rfl ?_
                    refine x_icmp_eq (tgt := 67) dX13_cut0_58 rfl (by omega) (by omega) (fun c58 => ?_) (fun c58 => ?_)
                    · refine x_iinc1 dX13_cut0_67 rfl ?_
                      refine x_goto (tgt := 291) dX13_cut0_70 rfl ?_
                      refine x_goto (tgt := 7) dX13_cut0_291 rfl ?_
                      exact x_wk (by simp [wkL, aU]) <| ih (p + 1) n hh (by omega) (by omega) i3 i5 i6 i7 (by rw [← hskip]; exact i9) i11 i12 i13
                    · refine x_iload_2 dX13_cut0_61 ?_
                      refine x_bipush dX13_cut0_62 rfl ?_
                      refine x_icmp_ne (tgt := 73) dX13_cut0_64 rfl (by omega) (by omega) (fun c64 => ?_) (fun c64 => ?_)
                      · exfalso; omega
                      · refine x_iinc1 dX13_cut0_67 rfl ?_
                        refine x_goto (tgt := 291) dX13_cut0_70 rfl ?_
                        refine x_goto (tgt := 7) dX13_cut0_291 rfl ?_
                        exact x_wk (by simp [wkL, aU]) <| ih (p + 1) n hh (by omega) (by omega) i3 i5 i6 i7 (by rw [← hskip]; exact i9) i11 i12 i13
              · exfalso; omega
          · have hw' : ¬ (u8A b D p = 32 ∨ u8A b D p = 9 ∨ u8A b D p = 10 ∨ u8A b D p = 13) := fun z => hw (by
              rw [← u8_W t4, ← e8]
              exact decide_eq_true z)
            rw [spn_stop (fun z => hw z.2)] at i9
            have hsk : sK b D n = tkK b D p := by unfold sK; rw [show tkP b D n.toNat = sP b D n from rfl, ← i9]
            have hle := tkE_le (b := b) i2.1 hp hD.2
            have hkr := tkK_rg b D p
            have hnext : sP b D (n + 1) = spn isW b D 2001 (tkE b D p) := by
              unfold sP
              rw [show (n + 1).toNat = n.toNat + 1 by omega]
              show spn isW b D 2001 (tkE b D (sP b D n)) = _
              rw [← i9]
            have hback : ∀ v nm e : Int, e = tkE b D p → (tkK b D p = 2 → v = tkV b D p) → (tkK b D p = 1 → nm = tkI b D p) → am_X G mX13_cut0 (d + 6) 7 [aR o, aI e, aU, aU, aU, aU, aU, aU] [] L (adM hh o n (tkK b D p) p v nm) Q := by
              intro v nm e y1 y2 y3
              subst y1
              refine ih _ (n + 1) _ (by omega) (by omega) (by omega) i5.add (by rw [adM_0, if_pos rfl]) (i7.add i3.1 hsk.symm i9 (fun z => ?_) (fun z => ?_)) hnext.symm (fun a z0 z1 => by rw [adM_o z0 z1]; exact i11 a z0 z1) (fun j z => by rw [adM_0, if_neg z]; exact i12 j z) (by rw [adM_3, if_neg (by omega)]; exact i13)
              · rw [← i9]
                exact y2 (by rw [← hsk]; exact z)
              · rw [← i9]
                exact y3 (by rw [← hsk]; exact z)
            by_cases hl : isL (b p) = true
            · have hK' : tkK b D p = if 8 < tkL b D p then 3 else if 0 ≤ kwOf (tkI b D p) then 20 + kwOf (tkI b D p) else 1 := by
                unfold tkK
                rw [if_neg (by omega), if_pos hl]
              have hL1 : isL (u8A b D p) = true := (u8A_L i5 i2.1).mpr ⟨hp, hl⟩
              have hkl := kwOf_len hp hl
              have hkr2 := kwOf_rg (tkI b D p)
              have hli := tkE_Li hp hl
              have h124 : ∀ m : Int, tkE b D p = p + m → am_X G mX13_cut0 (d + 6) 124 [aR o, aI p, aI (u8A b D p), aI m, aL (idN (fun i => b (p + i)) (if m < 8 then m else 8).toNat), aU, aU, aU] [] L hh Q := by
                intro m hE
                have hLn : tkL b D p = m := by unfold tkL; omega
                have hI : m ≤ 8 → idN (fun i => b (p + i)) (if m < 8 then m else 8).toNat = tkI b D p := fun z => by
                  unfold tkI
                  rw [hLn]
                  congr 2
                  split <;> omega
                have hbd := idN_bd (f := fun i => b (p + i)) (if m < 8 then m else 8).toNat (fun j z => (hli (p + j) (by omega) (by split at z <;> omega)).2)
                have hpw : (27 : Int) ^ (if m < 8 then m else 8).toNat ≤ 282429536481 := by
                  have : ∀ j : Nat, j ≤ 8 → (27 : Int) ^ j ≤ 282429536481 := by
                    intro j hj
                    have : j = 0 ∨ j = 1 ∨ j = 2 ∨ j = 3 ∨ j = 4 ∨ j = 5 ∨ j = 6 ∨ j = 7 ∨ j = 8 := by omega
                    rcases this with q | q | q | q | q | q | q | q | q <;> rw [q] <;> decide
                  exact this _ (by split <;> omega)
                generalize idN (fun i => b (p + i)) (if m < 8 then m else 8).toNat = nm at hI hbd ⊢
                have h179 : ∀ (s : Int) (u7 : AV), s = tkK b D p → am_X G mX13_cut0 (d + 6) 179 [aR o, aI p, aI (u8A b D p), aI m, aL nm, aU, aI s, u7] [] L hh Q := by
                  intro s u7 hs
                  subst hs
                  refine x_aload_0 dX13_cut0_179 ?_
                  refine x_iload6 dX13_cut0_180 ?_
                  refine x_iload_1 dX13_cut0_182 ?_
                  refine x_iconst dX13_cut0_183 ?_
                  refine x_lload4 dX13_cut0_184 ?_
                  refine x_callV4 dX13_cut0_186 rfl okX13_token q1825 q1827 qs58 (by first | assumption | (exact MdL.k0 (by assumption))) am_k13 rfl (C_X13_token hL i6 (by omega) ⟨by omega, by omega⟩ ⟨by omega, by omega⟩ ⟨by decide, by decide⟩ ⟨by omega, by omega⟩ (x_k0 ?_))
                  refine x_iload_1 dX13_cut0_189 ?_
                  refine x_iload_3 dX13_cut0_190 ?_
                  refine x_iadd dX13_cut0_191 ?_
                  refine x_istore_1 dX13_cut0_192 rfl ?_
                  refine x_goto (tgt := 291) dX13_cut0_193 rfl ?_
                  refine x_goto (tgt := 7) dX13_cut0_291 rfl ?_
                  exact x_wk (by simp [wkL, aU]) <| hback 0 nm (p + m) hE.symm (fun z => by rw [hK'] at z; exfalso; (repeat' split at z) <;> omega) (fun z => by
                  rw [hK'] at z
                  refine hI ?_
                  (repeat' split at z) <;> omega)
                have h146 : m ≤ 7 → am_X G mX13_cut0 (d + 6) 146 [aR o, aI p, aI (u8A b D p), aI m, aL nm, aU, aI 1, aI 0] [] L hh Q := by
                  intro h7
                  have hid := hI (by omega)
                  rw [← hid] at hkr2 hkl hK'
                  refine x_up1 17 (fun w s => 0 ≤ w → w ≤ 17 → ((s = 1 ∧ ∀ i, 0 ≤ i → i < w → kwN i ≠ nm) ∨ ∃ i, (0 ≤ i ∧ i < w) ∧ kwN i = nm ∧ s = 20 + i) → am_X G mX13_cut0 (d + 6) 146 [aR o, aI p, aI (u8A b D p), aI m, aL nm, aU, aI s, aI w] [] L hh Q) (fun w s ih2 y0 y1 y2 => ?_) 0 1 (by omega) (by omega) (Or.inl ⟨rfl, fun i z0 z1 => by omega⟩)
                  rcases Int.lt_or_le w 17 with hw17 | hw17
                  · have hkb := kwN_bd ⟨y0, hw17⟩
                    refine x_iload7 dX13_cut0_146 ?_
                    refine x_bipush dX13_cut0_148 rfl ?_
                    refine x_icmp_ge (tgt := 179) dX13_cut0_150 rfl (by omega) (by omega) (fun c150 => ?_) (fun c150 => ?_)
                    · exfalso; omega
                    · refine x_aload_0 dX13_cut0_153 ?_
                      refine x_getR dX13_cut0_154 fl1583_13 rfl (by first | (exact MdL.k0 (by assumption)) | (assumption)) (by first | (exact MdL.v_keys (by assumption)) | (assumption)) ?_
                      refine x_iload7 dX13_cut0_157 ?_
                      refine x_lald_ dX13_cut0_159 (by first | (exact MdL.k_keys (by assumption)) | (assumption)) (by first | (exact MdL.x_keys (by assumption) (by omega) (by omega)) | (omega)) (fun r159 => ?_)
                      rw [hky w y0 hw17] at r159 ⊢
                      refine x_lload4 dX13_cut0_160 ?_
                      refine x_lcmp dX13_cut0_162 (by exact ⟨by omega, by omega⟩) (by exact ⟨by omega, by omega⟩) ?_
                      refine x_if_ne (tgt := 173) dX13_cut0_163 rfl (by (repeat' split) <;> omega) (fun c163 => ?_) (fun c163 => ?_)
                      · refine x_iinc7 dX13_cut0_173 rfl ?_
                        refine x_goto (tgt := 146) dX13_cut0_176 rfl ?_
                        refine ih2 (by omega) _ (by omega) (by omega) ?_
                        first
                          | (have hne : kwN w ≠ nm := fun z => c163 (by rw [z, if_neg (by omega), if_pos rfl])
                             rcases y2 with ⟨q1, q2⟩ | ⟨i, q1, q2, q3⟩
                             · refine Or.inl ⟨q1, fun i z0 z1 => ?_⟩
                               rcases Int.lt_or_le i w with q | q
                               · exact q2 i z0 q
                               · rw [show i = w by omega]
                                 exact hne
                             · exact Or.inr ⟨i, by omega, q2, q3⟩)
                          | (refine Or.inr ⟨w, by omega, ?_, rfl⟩
                             (repeat' split at c163) <;> omega)
                      · refine x_bipush dX13_cut0_166 rfl ?_
                        refine x_iload7 dX13_cut0_168 ?_
                        refine x_iadd dX13_cut0_170 ?_
                        refine x_istore6 dX13_cut0_171 rfl ?_
                        refine x_iinc7 dX13_cut0_173 rfl ?_
                        refine x_goto (tgt := 146) dX13_cut0_176 rfl ?_
                        refine ih2 (by omega) _ (by omega) (by omega) ?_
                        first
                          | (have hne : kwN w ≠ nm := fun z => c163 (by rw [z, if_neg (by omega), if_pos rfl])
                             rcases y2 with ⟨q1, q2⟩ | ⟨i, q1, q2, q3⟩
                             · refine Or.inl ⟨q1, fun i z0 z1 => ?_⟩
                               rcases Int.lt_or_le i w with q | q
                               · exact q2 i z0 q
                               · rw [show i = w by omega]
                                 exact hne
                             · exact Or.inr ⟨i, by omega, q2, q3⟩)
                          | (refine Or.inr ⟨w, by omega, ?_, rfl⟩
                             (repeat' split at c163) <;> omega)
                  · skip
                    refine x_iload7 dX13_cut0_146 ?_
                    refine x_bipush dX13_cut0_148 rfl ?_
                    refine x_icmp_ge (tgt := 179) dX13_cut0_150 rfl (by omega) (by omega) (fun c150 => ?_) (fun c150 => ?_)
                    · refine h179 _ _ ?_
                      rw [hK', if_neg (by omega)]
                      rcases y2 with ⟨q1, q2⟩ | ⟨i, q1, q2, q3⟩
                      · have := kwS_none 17 0 nm (fun i z0 z1 => q2 i z0 (by omega))
                        rw [if_neg (by unfold kwOf; omega)]
                        exact q1
                      · rcases hkr2 with z | ⟨z1, z2, z3⟩
                        · exact absurd q2 (kwS_no 17 0 nm z (by omega) i q1.1 (by omega))
                        · rw [if_pos z1, q3, kwN_inj ⟨z1, z2⟩ ⟨q1.1, by omega⟩ (z3.trans q2.symm)]
                    · exfalso; omega
                refine x_iload_3 dX13_cut0_124 ?_
                refine x_bipush dX13_cut0_125 rfl ?_
                refine x_icmp_le (tgt := 134) dX13_cut0_127 rfl (by omega) (by omega) (fun c127 => ?_) (fun c127 => ?_)
                · refine x_iconst dX13_cut0_134 ?_
                  refine x_istore6 dX13_cut0_135 rfl ?_
                  refine x_iload_3 dX13_cut0_137 ?_
                  refine x_bipush dX13_cut0_138 rfl ?_
                  refine x_icmp_gt (tgt := 179) dX13_cut0_140 rfl (by omega) (by omega) (fun c140 => ?_) (fun c140 => ?_)
                  · refine h179 _ _ ?_
                    rw [hK']
                    (repeat' split) <;> omega
                  · refine x_iconst dX13_cut0_143 ?_
                    refine x_istore7 dX13_cut0_144 rfl ?_
                    first
                      | exact h146 (by omega)
                      | (exfalso; omega)
                · refine x_iconst dX13_cut0_130 ?_
                  refine x_goto (tgt := 135) dX13_cut0_131 rfl ?_
                  refine x_istore6 dX13_cut0_135 rfl ?_
                  refine x_iload_3 dX13_cut0_137 ?_
                  refine x_bipush dX13_cut0_138 rfl ?_
                  refine x_icmp_gt (tgt := 179) dX13_cut0_140 rfl (by omega) (by omega) (fun c140 => ?_) (fun c140 => ?_)
                  · refine h179 _ _ ?_
                    rw [hK']
                    (repeat' split) <;> omega
                  · refine x_iconst dX13_cut0_143 ?_
                    refine x_istore7 dX13_cut0_144 rfl ?_
                    first
                      | exact h146 (by omega)
                      | (exfalso; omega)
              have h85 : am_X G mX13_cut0 (d + 6) 85 [aR o, aI p, aI (u8A b D p), aI 0, aL 0, aU, aU, aU] [] L hh Q := by
                refine x_up0 (D - p) (fun m => 0 ≤ m → m ≤ D - p → (∀ i, p ≤ i → i < p + m → i < D ∧ isL (b i) = true) → am_X G mX13_cut0 (d + 6) 85 [aR o, aI p, aI (u8A b D p), aI m, aL (idN (fun i => b (p + i)) (if m < 8 then m else 8).toNat), aU, aU, aU] [] L hh Q) (fun m ihe y0 y1 y2 => ?_) 0 (by omega) (by omega) (fun i z0 z1 => by omega)
                have hb2 := u8A_rg i5 (i := p + m) (by omega)
                have hb3 := u8A_L i5 (i := p + m) (by omega)
                by_cases hz : p + m < D ∧ isL (b (p + m)) = true
                · have hzz : 97 ≤ b (p + m) ∧ b (p + m) ≤ 122 := of_decide_eq_true hz.2
                  have h8 : u8A b D (p + m) = b (p + m) := by unfold u8A u8; rw [if_pos hz.1, if_neg (by omega)]
                  have ihe' := ihe (by omega) (by omega) (by omega) (fun i z0 z1 => by
                    rcases Int.lt_or_le i (p + m) with q | q
                    · exact y2 i z0 q
                    · rw [show i = p + m by omega]
                      exact hz)
                  have e1 : m < 8 → apN (idN (fun i => b (p + i)) (if m < 8 then m else 8).toNat) (b (p + m)) = idN (fun i => b (p + i)) (if m + 1 < 8 then m + 1 else 8).toNat := fun z => by
                    rw [if_pos z, show (if m + 1 < 8 then m + 1 else 8).toNat = m.toNat + 1 by split <;> omega]
                    unfold apN
                    rw [if_neg (by omega)]
                    show 27 * idN (fun i => b (p + i)) m.toNat + (b (p + m) - 97 + 1) = 27 * idN (fun i => b (p + i)) m.toNat + (b (p + ((m.toNat : Nat) : Int)) - 96)
                    rw [show ((m.toNat : Nat) : Int) = m by omega]
                    omega
                  have e2 : ¬ m < 8 → idN (fun i => b (p + i)) (if m < 8 then m else 8).toNat = idN (fun i => b (p + i)) (if m + 1 < 8 then m + 1 else 8).toNat := fun z => by
                    rw [if_neg z, if_neg (by omega)]
                  generalize idN (fun i => b (p + i)) (if m + 1 < 8 then m + 1 else 8).toNat = nm1 at ihe' e1 e2
                  generalize idN (fun i => b (p + i)) (if m < 8 then m else 8).toNat = nm at e1 e2 ⊢
                  have hl2 : (if isL (u8A b D (p + m)) = true then (1 : Int) else 0) = 1 := if_pos (hb3.mpr hz)
                  refine x_aload_0 dX13_cut0_85 ?_
                  refine x_iload_1 dX13_cut0_86 ?_
                  refine x_iload_3 dX13_cut0_87 ?_
                  refine x_iadd dX13_cut0_88 ?_
                  refine x_callV1 dX13_cut0_89 rfl okX13_byteAt q1821 q1823 qs57 (by first | assumption | (exact MdL.k0 (by assumption))) am_k13 rfl (C_X13_byteAt hL i5 (by omega) (x_k1 ?_))
                  refine x_callS1 dX13_cut0_92 rfl okX13_isLetter q1829 q1830 rfl (C_X13_isLetter hb2 (x_k1 ?_))
                  rw [hl2]
                  refine x_if_eq (tgt := 124) dX13_cut0_95 rfl (by omega) (fun c95 => ?_) (fun c95 => ?_)
                  · exact absurd c95 (by decide)
                  · refine x_iload_3 dX13_cut0_98 ?_
                    refine x_bipush dX13_cut0_99 rfl ?_
                    refine x_icmp_ge (tgt := 118) dX13_cut0_101 rfl (by omega) (by omega) (fun c101 => ?_) (fun c101 => ?_)
                    · refine x_iinc3 dX13_cut0_118 rfl ?_
                      refine x_goto (tgt := 85) dX13_cut0_121 rfl ?_
                      first
                        | (rw [e1 (by omega)]; exact ihe')
                        | (rw [e2 (by omega)]; exact ihe')
                    · refine x_lload4 dX13_cut0_104 ?_
                      refine x_aload_0 dX13_cut0_106 ?_
                      refine x_iload_1 dX13_cut0_107 ?_
                      refine x_iload_3 dX13_cut0_108 ?_
                      refine x_iadd dX13_cut0_109 ?_
                      refine x_callV1 dX13_cut0_110 rfl okX13_byteAt q1821 q1823 qs57 (by first | assumption | (exact MdL.k0 (by assumption))) am_k13 rfl (C_X13_byteAt hL i5 (by omega) (x_k1 ?_))
                      rw [h8]
                      refine x_callS2 dX13_cut0_113 rfl okX13_appends q1563 q1564 rfl (C_X13_appends (by omega) (x_k1 ?_))
                      refine x_lstore4 dX13_cut0_116 rfl ?_
                      refine x_iinc3 dX13_cut0_118 rfl ?_
                      refine x_goto (tgt := 85) dX13_cut0_121 rfl ?_
                      first
                        | (rw [e1 (by omega)]; exact ihe')
                        | (rw [e2 (by omega)]; exact ihe')
                · have hE : tkE b D p = p + m := tkE_L i2.1 hD.2 hl (by omega) y2 hz
                  have hl2 : (if isL (u8A b D (p + m)) = true then (1 : Int) else 0) = 0 := if_neg (fun z => hz (hb3.mp z))
                  refine x_aload_0 dX13_cut0_85 ?_
                  refine x_iload_1 dX13_cut0_86 ?_
                  refine x_iload_3 dX13_cut0_87 ?_
                  refine x_iadd dX13_cut0_88 ?_
                  refine x_callV1 dX13_cut0_89 rfl okX13_byteAt q1821 q1823 qs57 (by first | assumption | (exact MdL.k0 (by assumption))) am_k13 rfl (C_X13_byteAt hL i5 (by omega) (x_k1 ?_))
                  refine x_callS1 dX13_cut0_92 rfl okX13_isLetter q1829 q1830 rfl (C_X13_isLetter hb2 (x_k1 ?_))
                  rw [hl2]
                  refine x_if_eq (tgt := 124) dX13_cut0_95 rfl (by omega) (fun c95 => ?_) (fun c95 => ?_)
                  · exact h124 m hE
                  · exact absurd rfl c95
              refine x_aload_0 dX13_cut0_7 ?_
              refine x_getI_ dX13_cut0_8 fl1584_13 (by first | (exact MdL.k0 (by assumption)) | (assumption)) (fun r8 => ?_)
              rw [i6] at r8 ⊢
              refine x_sipush dX13_cut0_11 rfl ?_
              refine x_icmp_gt (tgt := 294) dX13_cut0_14 rfl (by omega) (by omega) (fun c14 => ?_) (fun c14 => ?_)
              · exfalso; omega
              · refine x_aload_0 dX13_cut0_17 ?_
                refine x_iload_1 dX13_cut0_18 ?_
                refine x_callV1 dX13_cut0_19 rfl okX13_byteAt q1821 q1823 qs57 (by first | assumption | (exact MdL.k0 (by assumption))) am_k13 rfl (C_X13_byteAt hL i5 (by omega) (x_k1 ?_))
                refine x_istore_2 dX13_cut0_22 rfl ?_
                refine x_iload_1 dX13_cut0_23 ?_
                refine x_aload_0 dX13_cut0_24 ?_
                refine x_getI_ dX13_cut0_25 fl1578_13 (by first | (exact MdL.k0 (by assumption)) | (assumption)) (fun r25 => ?_)
                rw [i5.1] at r25 ⊢
                refine x_icmp_lt (tgt := 43) dX13_cut0_28 rfl (by omega) (by omega) (fun c28 => ?_) (fun c28 => ?_)
                · refine x_iload_2 dX13_cut0_43 ?_
                  refine x_bipush dX13_cut0_44 rfl ?_
                  refine x_icmp_eq (tgt := 67) dX13_cut0_46 rfl (by omega) (by omega) (fun c46 => ?_) (fun c46 => ?_)
                  · exfalso; omega
                  · refine x_iload_2 dX13_cut0_49 ?_
                    refine x_bipush dX13_cut0_50 rfl ?_
                    refine x_icmp_eq (tgt := 67) dX13_cut0_52 rfl (by omega) (by omega) (fun c52 => ?_) (fun c52 => ?_)
                    · exfalso; omega
                    · refine x_iload_2 dX13_cut0_55 ?_
                      refine x_bipush dX13_cut0_56 rfl ?_
                      refine x_icmp_eq (tgt := 67) dX13_cut0_58 rfl (by omega) (by omega) (fun c58 => ?_) (fun c58 => ?_)
                      · exfalso; omega
                      · refine x_iload_2 dX13_cut0_61 ?_
                        refine x_bipush dX13_cut0_62 rfl ?_
                        refine x_icmp_ne (tgt := 73) dX13_cut0_64 rfl (by omega) (by omega) (fun c64 => ?_) (fun c64 => ?_)
                        · refine x_iload_2 dX13_cut0_73 ?_
                          refine x_callS1 dX13_cut0_74 rfl okX13_isLetter q1829 q1830 rfl (C_X13_isLetter hu (x_k1 ?_))
                          rw [if_pos hL1]
                          refine x_if_eq (tgt := 196) dX13_cut0_77 rfl (by omega) (fun c77 => ?_) (fun c77 => ?_)
                          · exact absurd c77 (by decide)
                          · refine x_iconst dX13_cut0_80 ?_
                            refine x_istore_3 dX13_cut0_81 rfl ?_
                            refine x_lconst dX13_cut0_82 ?_
                            refine x_lstore4 dX13_cut0_83 rfl ?_
                            exact h85
                        · exfalso; omega
                · exfalso; omega
            · have hL0 : ¬ isL (u8A b D p) = true := fun z => hl ((u8A_L i5 i2.1).mp z).2
              by_cases hg : isG (b p) = true
              · have hK' : tkK b D p = if 4 < tkL b D p then 3 else 2 := by
                  unfold tkK
                  rw [if_neg (by omega), if_neg hl, if_pos hg]
                have hG1 : isG (u8A b D p) = true := (u8A_G i5 i2.1).mpr ⟨hp, hg⟩
                have hgi := tkE_Gi hp hl hg
                have h250 : ∀ m : Int, tkE b D p = p + m → am_X G mX13_cut0 (d + 6) 250 [aR o, aI p, aI (u8A b D p), aI m, aI (numN (fun i => b (p + i)) (if m < 4 then m else 4).toNat), aU, aU, aU] [] L hh Q := by
                  intro m hE
                  have hLn : tkL b D p = m := by unfold tkL; omega
                  have hI : m ≤ 4 → numN (fun i => b (p + i)) (if m < 4 then m else 4).toNat = tkV b D p := fun z => by
                    unfold tkV
                    rw [hLn]
                    congr 2
                    split <;> omega
                  have hbd := numN_bd (f := fun i => b (p + i)) (if m < 4 then m else 4).toNat (fun j z => (hgi (p + j) (by omega) (by split at z <;> omega)).2)
                  have hpw : (10 : Int) ^ (if m < 4 then m else 4).toNat ≤ 10000 := by
                    have : ∀ j : Nat, j ≤ 4 → (10 : Int) ^ j ≤ 10000 := by
                      intro j hj
                      have : j = 0 ∨ j = 1 ∨ j = 2 ∨ j = 3 ∨ j = 4 := by omega
                      rcases this with q | q | q | q | q <;> rw [q] <;> decide
                    exact this _ (by split <;> omega)
                  generalize numN (fun i => b (p + i)) (if m < 4 then m else 4).toNat = vv at hI hbd ⊢
                  have hfin : ∀ s : Int, s = tkK b D p → am_X G mX13_cut0 (d + 6) 261 [aR o, aI p, aI (u8A b D p), aI m, aI vv, aU, aU, aU] [aI s, aR o] L hh Q := by
                    intro s hs
                    subst hs
                    refine x_iload_1 dX13_cut0_261 ?_
                    refine x_iload4 dX13_cut0_262 ?_
                    refine x_lconst dX13_cut0_264 ?_
                    refine x_callV4 dX13_cut0_265 rfl okX13_token q1825 q1827 qs58 (by first | assumption | (exact MdL.k0 (by assumption))) am_k13 rfl (C_X13_token hL i6 (by omega) ⟨by omega, by omega⟩ ⟨by omega, by omega⟩ ⟨by omega, by omega⟩ ⟨by decide, by decide⟩ (x_k0 ?_))
                    refine x_iload_1 dX13_cut0_268 ?_
                    refine x_iload_3 dX13_cut0_269 ?_
                    refine x_iadd dX13_cut0_270 ?_
                    refine x_istore_1 dX13_cut0_271 rfl ?_
                    refine x_goto (tgt := 291) dX13_cut0_272 rfl ?_
                    refine x_goto (tgt := 7) dX13_cut0_291 rfl ?_
                    exact x_wk (by simp [wkL, aU]) <| hback vv 0 (p + m) hE.symm (fun z => by
                    rw [hK'] at z
                    refine hI ?_
                    split at z <;> omega) (fun z => by rw [hK'] at z; exfalso; split at z <;> omega)
                  refine x_aload_0 dX13_cut0_250 ?_
                  refine x_iload_3 dX13_cut0_251 ?_
                  refine x_iconst dX13_cut0_252 ?_
                  refine x_icmp_le (tgt := 260) dX13_cut0_253 rfl (by omega) (by omega) (fun c253 => ?_) (fun c253 => ?_)
                  · refine x_iconst dX13_cut0_260 ?_
                    refine hfin _ ?_
                    rw [hK']
                    split <;> omega
                  · refine x_iconst dX13_cut0_256 ?_
                    refine x_goto (tgt := 261) dX13_cut0_257 rfl ?_
                    refine hfin _ ?_
                    rw [hK']
                    split <;> omega
                have h208 : am_X G mX13_cut0 (d + 6) 208 [aR o, aI p, aI (u8A b D p), aI 0, aI 0, aU, aU, aU] [] L hh Q := by
                  refine x_up0 (D - p) (fun m => 0 ≤ m → m ≤ D - p → (∀ i, p ≤ i → i < p + m → i < D ∧ isG (b i) = true) → am_X G mX13_cut0 (d + 6) 208 [aR o, aI p, aI (u8A b D p), aI m, aI (numN (fun i => b (p + i)) (if m < 4 then m else 4).toNat), aU, aU, aU] [] L hh Q) (fun m ihe y0 y1 y2 => ?_) 0 (by omega) (by omega) (fun i z0 z1 => by omega)
                  have hb2 := u8A_rg i5 (i := p + m) (by omega)
                  have hb3 := u8A_G i5 (i := p + m) (by omega)
                  by_cases hz : p + m < D ∧ isG (b (p + m)) = true
                  · have hzz : 48 ≤ b (p + m) ∧ b (p + m) ≤ 57 := of_decide_eq_true hz.2
                    have h8 : u8A b D (p + m) = b (p + m) := by unfold u8A u8; rw [if_pos hz.1, if_neg (by omega)]
                    have ihe' := ihe (by omega) (by omega) (by omega) (fun i z0 z1 => by
                      rcases Int.lt_or_le i (p + m) with q | q
                      · exact y2 i z0 q
                      · rw [show i = p + m by omega]
                        exact hz)
                    have hbd := numN_bd (f := fun i => b (p + i)) (if m < 4 then m else 4).toNat (fun j z => by
                      have := y2 (p + j) (by omega) (by split at z <;> omega)
                      exact of_decide_eq_true this.2)
                    have hpw : (10 : Int) ^ (if m < 4 then m else 4).toNat ≤ 10000 := by
                      have : ∀ j : Nat, j ≤ 4 → (10 : Int) ^ j ≤ 10000 := by
                        intro j hj
                        have : j = 0 ∨ j = 1 ∨ j = 2 ∨ j = 3 ∨ j = 4 := by omega
                        rcases this with q | q | q | q | q <;> rw [q] <;> decide
                      exact this _ (by split <;> omega)
                    have e1 : m < 4 → 10 * numN (fun i => b (p + i)) (if m < 4 then m else 4).toNat + b (p + m) - 48 = numN (fun i => b (p + i)) (if m + 1 < 4 then m + 1 else 4).toNat := fun z => by
                      rw [if_pos z, show (if m + 1 < 4 then m + 1 else 4).toNat = m.toNat + 1 by split <;> omega]
                      show 10 * numN (fun i => b (p + i)) m.toNat + b (p + m) - 48 = 10 * numN (fun i => b (p + i)) m.toNat + (b (p + ((m.toNat : Nat) : Int)) - 48)
                      rw [show ((m.toNat : Nat) : Int) = m by omega]
                      omega
                    have e2 : ¬ m < 4 → numN (fun i => b (p + i)) (if m < 4 then m else 4).toNat = numN (fun i => b (p + i)) (if m + 1 < 4 then m + 1 else 4).toNat := fun z => by
                      rw [if_neg z, if_neg (by omega)]
                    generalize numN (fun i => b (p + i)) (if m + 1 < 4 then m + 1 else 4).toNat = v1 at ihe' e1 e2
                    generalize numN (fun i => b (p + i)) (if m < 4 then m else 4).toNat = vv at e1 e2 hbd ⊢
                    have hl2 : (if isG (u8A b D (p + m)) = true then (1 : Int) else 0) = 1 := if_pos (hb3.mpr hz)
                    refine x_aload_0 dX13_cut0_208 ?_
                    refine x_iload_1 dX13_cut0_209 ?_
                    refine x_iload_3 dX13_cut0_210 ?_
                    refine x_iadd dX13_cut0_211 ?_
                    refine x_callV1 dX13_cut0_212 rfl okX13_byteAt q1821 q1823 qs57 (by first | assumption | (exact MdL.k0 (by assumption))) am_k13 rfl (C_X13_byteAt hL i5 (by omega) (x_k1 ?_))
                    refine x_callS1 dX13_cut0_215 rfl okX13_isDigit q1832 q1833 rfl (C_X13_isDigit hb2 (x_k1 ?_))
                    rw [hl2]
                    refine x_if_eq (tgt := 250) dX13_cut0_218 rfl (by omega) (fun c218 => ?_) (fun c218 => ?_)
                    · exact absurd c218 (by decide)
                    · refine x_iload_3 dX13_cut0_221 ?_
                      refine x_iconst dX13_cut0_222 ?_
                      refine x_icmp_ge (tgt := 244) dX13_cut0_223 rfl (by omega) (by omega) (fun c223 => ?_) (fun c223 => ?_)
                      · refine x_iinc3 dX13_cut0_244 rfl ?_
                        refine x_goto (tgt := 208) dX13_cut0_247 rfl ?_
                        first
                          | (rw [e1 (by omega)]; exact ihe')
                          | (rw [e2 (by omega)]; exact ihe')
                      · refine x_bipush dX13_cut0_226 rfl ?_
                        refine x_iload4 dX13_cut0_228 ?_
                        refine x_imul dX13_cut0_230 ?_
                        refine x_aload_0 dX13_cut0_231 ?_
                        refine x_iload_1 dX13_cut0_232 ?_
                        refine x_iload_3 dX13_cut0_233 ?_
                        refine x_iadd dX13_cut0_234 ?_
                        refine x_callV1 dX13_cut0_235 rfl okX13_byteAt q1821 q1823 qs57 (by first | assumption | (exact MdL.k0 (by assumption))) am_k13 rfl (C_X13_byteAt hL i5 (by omega) (x_k1 ?_))
                        rw [h8]
                        refine x_iadd dX13_cut0_238 ?_
                        refine x_bipush dX13_cut0_239 rfl ?_
                        refine x_isub dX13_cut0_241 ?_
                        refine x_istore4 dX13_cut0_242 rfl ?_
                        refine x_iinc3 dX13_cut0_244 rfl ?_
                        refine x_goto (tgt := 208) dX13_cut0_247 rfl ?_
                        first
                          | (rw [e1 (by omega)]; exact ihe')
                          | (rw [e2 (by omega)]; exact ihe')
                  · have hE : tkE b D p = p + m := tkE_G i2.1 hD.2 hl hg (by omega) y2 hz
                    have hl2 : (if isG (u8A b D (p + m)) = true then (1 : Int) else 0) = 0 := if_neg (fun z => hz (hb3.mp z))
                    refine x_aload_0 dX13_cut0_208 ?_
                    refine x_iload_1 dX13_cut0_209 ?_
                    refine x_iload_3 dX13_cut0_210 ?_
                    refine x_iadd dX13_cut0_211 ?_
                    refine x_callV1 dX13_cut0_212 rfl okX13_byteAt q1821 q1823 qs57 (by first | assumption | (exact MdL.k0 (by assumption))) am_k13 rfl (C_X13_byteAt hL i5 (by omega) (x_k1 ?_))
                    refine x_callS1 dX13_cut0_215 rfl okX13_isDigit q1832 q1833 rfl (C_X13_isDigit hb2 (x_k1 ?_))
                    rw [hl2]
                    refine x_if_eq (tgt := 250) dX13_cut0_218 rfl (by omega) (fun c218 => ?_) (fun c218 => ?_)
                    · exact h250 m hE
                    · exact absurd rfl c218
                refine x_aload_0 dX13_cut0_7 ?_
                refine x_getI_ dX13_cut0_8 fl1584_13 (by first | (exact MdL.k0 (by assumption)) | (assumption)) (fun r8 => ?_)
                rw [i6] at r8 ⊢
                refine x_sipush dX13_cut0_11 rfl ?_
                refine x_icmp_gt (tgt := 294) dX13_cut0_14 rfl (by omega) (by omega) (fun c14 => ?_) (fun c14 => ?_)
                · exfalso; omega
                · refine x_aload_0 dX13_cut0_17 ?_
                  refine x_iload_1 dX13_cut0_18 ?_
                  refine x_callV1 dX13_cut0_19 rfl okX13_byteAt q1821 q1823 qs57 (by first | assumption | (exact MdL.k0 (by assumption))) am_k13 rfl (C_X13_byteAt hL i5 (by omega) (x_k1 ?_))
                  refine x_istore_2 dX13_cut0_22 rfl ?_
                  refine x_iload_1 dX13_cut0_23 ?_
                  refine x_aload_0 dX13_cut0_24 ?_
                  refine x_getI_ dX13_cut0_25 fl1578_13 (by first | (exact MdL.k0 (by assumption)) | (assumption)) (fun r25 => ?_)
                  rw [i5.1] at r25 ⊢
                  refine x_icmp_lt (tgt := 43) dX13_cut0_28 rfl (by omega) (by omega) (fun c28 => ?_) (fun c28 => ?_)
                  · refine x_iload_2 dX13_cut0_43 ?_
                    refine x_bipush dX13_cut0_44 rfl ?_
                    refine x_icmp_eq (tgt := 67) dX13_cut0_46 rfl (by omega) (by omega) (fun c46 => ?_) (fun c46 => ?_)
                    · exfalso; omega
                    · refine x_iload_2 dX13_cut0_49 ?_
                      refine x_bipush dX13_cut0_50 rfl ?_
                      refine x_icmp_eq (tgt := 67) dX13_cut0_52 rfl (by omega) (by omega) (fun c52 => ?_) (fun c52 => ?_)
                      · exfalso; omega
                      · refine x_iload_2 dX13_cut0_55 ?_
                        refine x_bipush dX13_cut0_56 rfl ?_
                        refine x_icmp_eq (tgt := 67) dX13_cut0_58 rfl (by omega) (by omega) (fun c58 => ?_) (fun c58 => ?_)
                        · exfalso; omega
                        · refine x_iload_2 dX13_cut0_61 ?_
                          refine x_bipush dX13_cut0_62 rfl ?_
                          refine x_icmp_ne (tgt := 73) dX13_cut0_64 rfl (by omega) (by omega) (fun c64 => ?_) (fun c64 => ?_)
                          · refine x_iload_2 dX13_cut0_73 ?_
                            refine x_callS1 dX13_cut0_74 rfl okX13_isLetter q1829 q1830 rfl (C_X13_isLetter hu (x_k1 ?_))
                            rw [if_neg hL0]
                            refine x_if_eq (tgt := 196) dX13_cut0_77 rfl (by omega) (fun c77 => ?_) (fun c77 => ?_)
                            · refine x_iload_2 dX13_cut0_196 ?_
                              refine x_callS1 dX13_cut0_197 rfl okX13_isDigit q1832 q1833 rfl (C_X13_isDigit hu (x_k1 ?_))
                              rw [if_pos hG1]
                              refine x_if_eq (tgt := 275) dX13_cut0_200 rfl (by omega) (fun c200 => ?_) (fun c200 => ?_)
                              · exact absurd c200 (by decide)
                              · refine x_iconst dX13_cut0_203 ?_
                                refine x_istore_3 dX13_cut0_204 rfl ?_
                                refine x_iconst dX13_cut0_205 ?_
                                refine x_istore4 dX13_cut0_206 rfl ?_
                                exact h208
                            · exact absurd rfl c77
                          · exfalso; omega
                  · exfalso; omega
              · have hG0 : ¬ isG (u8A b D p) = true := fun z => hg ((u8A_G i5 i2.1).mp z).2
                have hK' : tkK b D p = kdS (u8A b D p) := by
                  unfold tkK
                  rw [if_neg (by omega), if_neg hl, if_neg hg, e8, u8_S t4]
                have hE := tkE_S (D := D) hl hg
                have hks := kdS_rg (u8A b D p)
                refine x_aload_0 dX13_cut0_7 ?_
                refine x_getI_ dX13_cut0_8 fl1584_13 (by first | (exact MdL.k0 (by assumption)) | (assumption)) (fun r8 => ?_)
                rw [i6] at r8 ⊢
                refine x_sipush dX13_cut0_11 rfl ?_
                refine x_icmp_gt (tgt := 294) dX13_cut0_14 rfl (by omega) (by omega) (fun c14 => ?_) (fun c14 => ?_)
                · exfalso; omega
                · refine x_aload_0 dX13_cut0_17 ?_
                  refine x_iload_1 dX13_cut0_18 ?_
                  refine x_callV1 dX13_cut0_19 rfl okX13_byteAt q1821 q1823 qs57 (by first | assumption | (exact MdL.k0 (by assumption))) am_k13 rfl (C_X13_byteAt hL i5 (by omega) (x_k1 ?_))
                  refine x_istore_2 dX13_cut0_22 rfl ?_
                  refine x_iload_1 dX13_cut0_23 ?_
                  refine x_aload_0 dX13_cut0_24 ?_
                  refine x_getI_ dX13_cut0_25 fl1578_13 (by first | (exact MdL.k0 (by assumption)) | (assumption)) (fun r25 => ?_)
                  rw [i5.1] at r25 ⊢
                  refine x_icmp_lt (tgt := 43) dX13_cut0_28 rfl (by omega) (by omega) (fun c28 => ?_) (fun c28 => ?_)
                  · refine x_iload_2 dX13_cut0_43 ?_
                    refine x_bipush dX13_cut0_44 rfl ?_
                    refine x_icmp_eq (tgt := 67) dX13_cut0_46 rfl (by omega) (by omega) (fun c46 => ?_) (fun c46 => ?_)
                    · exfalso; omega
                    · refine x_iload_2 dX13_cut0_49 ?_
                      refine x_bipush dX13_cut0_50 rfl ?_
                      refine x_icmp_eq (tgt := 67) dX13_cut0_52 rfl (by omega) (by omega) (fun c52 => ?_) (fun c52 => ?_)
                      · exfalso; omega
                      · refine x_iload_2 dX13_cut0_55 ?_
                        refine x_bipush dX13_cut0_56 rfl ?_
                        refine x_icmp_eq (tgt := 67) dX13_cut0_58 rfl (by omega) (by omega) (fun c58 => ?_) (fun c58 => ?_)
                        · exfalso; omega
                        · refine x_iload_2 dX13_cut0_61 ?_
                          refine x_bipush dX13_cut0_62 rfl ?_
                          refine x_icmp_ne (tgt := 73) dX13_cut0_64 rfl (by omega) (by omega) (fun c64 => ?_) (fun c64 => ?_)
                          · refine x_iload_2 dX13_cut0_73 ?_
                            refine x_callS1 dX13_cut0_74 rfl okX13_isLetter q1829 q1830 rfl (C_X13_isLetter hu (x_k1 ?_))
                            rw [if_neg hL0]
                            refine x_if_eq (tgt := 196) dX13_cut0_77 rfl (by omega) (fun c77 => ?_) (fun c77 => ?_)
                            · refine x_iload_2 dX13_cut0_196 ?_
                              refine x_callS1 dX13_cut0_197 rfl okX13_isDigit q1832 q1833 rfl (C_X13_isDigit hu (x_k1 ?_))
                              rw [if_neg hG0]
                              refine x_if_eq (tgt := 275) dX13_cut0_200 rfl (by omega) (fun c200 => ?_) (fun c200 => ?_)
                              · refine x_iload_1 dX13_cut0_275 ?_
                                refine x_aload_0 dX13_cut0_276 ?_
                                refine x_iload_1 dX13_cut0_277 ?_
                                refine x_iload_2 dX13_cut0_278 ?_
                                refine x_aload_0 dX13_cut0_279 ?_
                                refine x_iload_1 dX13_cut0_280 ?_
                                refine x_iconst dX13_cut0_281 ?_
                                refine x_iadd dX13_cut0_282 ?_
                                refine x_callV1 dX13_cut0_283 rfl okX13_byteAt q1821 q1823 qs57 (by first | assumption | (exact MdL.k0 (by assumption))) am_k13 rfl (C_X13_byteAt hL i5 (by omega) (x_k1 ?_))
                                refine x_callV3 dX13_cut0_286 rfl okX13_sign q1835 q1837 qs59 (by first | assumption | (exact MdL.k0 (by assumption))) am_k13 rfl (C_X13_sign hL i6 (by omega) ⟨by omega, by omega⟩ hu (x_k1 ?_))
                                refine x_iadd dX13_cut0_289 ?_
                                refine x_istore_1 dX13_cut0_290 rfl ?_
                                refine x_goto (tgt := 7) dX13_cut0_291 rfl ?_
                                rw [← hK']
                                exact x_wk (by simp [wkL, aU]) <| hback 0 0 (p + 1) hE.symm (fun z => by omega) (fun z => by omega)
                              · exact absurd rfl c200
                            · exact absurd rfl c77
                          · exfalso; omega
                  · exfalso; omega
        · have hpD : p = D := by omega
          have e0 : u8A b D p = 0 := if_neg hp
          rw [spn_stop (by omega)] at i9
          have hs0 : sK b D n = 0 := sK_0.mpr (by omega)
          refine x_aload_0 dX13_cut0_7 ?_
          refine x_getI_ dX13_cut0_8 fl1584_13 (by first | (exact MdL.k0 (by assumption)) | (assumption)) (fun r8 => ?_)
          rw [i6] at r8 ⊢
          refine x_sipush dX13_cut0_11 rfl ?_
          refine x_icmp_gt (tgt := 294) dX13_cut0_14 rfl (by omega) (by omega) (fun c14 => ?_) (fun c14 => ?_)
          · exfalso; omega
          · refine x_aload_0 dX13_cut0_17 ?_
            refine x_iload_1 dX13_cut0_18 ?_
            refine x_callV1 dX13_cut0_19 rfl okX13_byteAt q1821 q1823 qs57 (by first | assumption | (exact MdL.k0 (by assumption))) am_k13 rfl (C_X13_byteAt hL i5 (by omega) (x_k1 ?_))
            refine x_istore_2 dX13_cut0_22 rfl ?_
            refine x_iload_1 dX13_cut0_23 ?_
            refine x_aload_0 dX13_cut0_24 ?_
            refine x_getI_ dX13_cut0_25 fl1578_13 (by first | (exact MdL.k0 (by assumption)) | (assumption)) (fun r25 => ?_)
            rw [i5.1] at r25 ⊢
            refine x_icmp_lt (tgt := 43) dX13_cut0_28 rfl (by omega) (by omega) (fun c28 => ?_) (fun c28 => ?_)
            · exfalso; omega
            · refine x_aload_0 dX13_cut0_31 ?_
              refine x_iconst dX13_cut0_32 ?_
              refine x_aload_0 dX13_cut0_33 ?_
              refine x_getI_ dX13_cut0_34 fl1578_13 (by first | (exact MdL.k0 (by assumption)) | (assumption)) (fun r34 => ?_)
              rw [i5.1] at r34 ⊢
              refine x_iconst dX13_cut0_37 ?_
              refine x_lconst dX13_cut0_38 ?_
              refine x_callV4 dX13_cut0_39 rfl okX13_token q1825 q1827 qs58 (by first | assumption | (exact MdL.k0 (by assumption))) am_k13 rfl (C_X13_token hL i6 (by omega) ⟨by decide, by decide⟩ ⟨by omega, by omega⟩ ⟨by decide, by decide⟩ ⟨by decide, by decide⟩ (x_k0 ?_))
              refine x_ret dX13_cut0_42 rfl ?_
              refine k _ (n + 1) (by omega) (i7.add i3.1 hs0.symm (by omega) (fun z => by omega) (fun z => by omega)) (Or.inr ⟨by omega, by rw [show n + 1 - 1 = n by omega]; exact hs0⟩) (fun a z0 z1 => by rw [adM_o z0 z1]; exact i11 a z0 z1) (fun j z => by rw [adM_0, if_neg z]; exact i12 j z) (by rw [adM_3, if_neg (by omega)]; exact i13)
  refine x_start okX13_cut0 rfl rfl rfl rfl ?_
  refine x_aload_0 dX13_cut0_0 ?_
  refine x_iconst dX13_cut0_1 ?_
  refine x_putI_ dX13_cut0_2 fl1584_13 (by first | (exact MdL.k0 (by assumption)) | (assumption)) (by omega) ?_
  refine x_iconst dX13_cut0_5 ?_
  refine x_istore_1 dX13_cut0_6 rfl ?_
  refine main 3000 0 0 _ (by omega) (by omega) (by omega) ?_ (by rw [am_st_s]) (fun i z0 z1 => by omega) rfl (fun a z0 z1 => am_st_o z0) (fun j z => am_st_i z) (by rw [am_st_o (by omega)])
  obtain ⟨t1, t2, t3, t4⟩ := hT
  exact ⟨by rw [am_st_i (by decide)]; exact t1, t2, fun i z0 z1 => by rw [am_st_o (by omega)]; exact t3 i z0 z1, t4⟩
end MTOK2
