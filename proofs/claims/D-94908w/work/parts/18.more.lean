/-! MORE ROWS: arraycopy, int arrays of the layout -/
set_option maxRecDepth 100000
section AMMORE
variable {G : am_G} {M Y : am_M} {d pc : Nat} {ls st rest : List AV} {L : am_L} {h h1 : am_H} {Q : am_O → am_L → am_H → Prop}
theorem am_ct_wr {a b : Int} (hab : b ≠ a) (hh : ∀ b j : Int, b ≠ a → h1 b j = h b j) (i : Int) : am_ct L h1 b i = am_ct L h b i := by
  unfold am_ct
  rw [hh b i hab]
theorem am_Wf.wr (w : am_Wf L h) {a : Int} {k : Nat} (hk : kd L a = k) (hk1 : 100 ≤ k) (hk2 : k < 110) (hh : ∀ b j : Int, b ≠ a → h1 b j = h b j) (hr : ∀ j, am_rg (am_aty k) (h1 a j)) : am_Wf L h1 := by
  obtain ⟨r1, r4, r5, r6⟩ := w
  have ha := r4 a (by omega)
  refine ⟨r1, r4, fun b i hb => ⟨?_, (r5 b i hb).2⟩, fun b i => ?_⟩
  · rw [hh b i (by omega)]
    exact (r5 b i hb).1
  · by_cases e : b = a
    · subst e
      obtain ⟨e1, e2⟩ := am_aimm (x := i) hk hk1
      rw [e2]
      unfold am_ct
      rw [if_neg (by rw [e1]; simp; omega)]
      exact hr i
    · rw [am_ct_wr e hh]
      exact r6 b i
theorem am_Rel.wr {H H1 : Heap} (hR : am_Rel G L h H) {a : Int} {k : Nat} (hk : kd L a = k) (hk1 : 100 ≤ k) (hk2 : k < 110) (hh : ∀ b j : Int, b ≠ a → h1 b j = h b j) (hr : ∀ j, am_rg (am_aty k) (h1 a j))
    (hok : H1[am_ad G a]? = some (arrV (G.2.2.2.2.2 k) (ln L a).toNat (fun j => am_val G (am_tg (am_aty k)) (h1 a (j : Int))))) (hz : H1.size = H.size) (ho : ∀ q, q ≠ am_ad G a → H1[q]? = H[q]?) : am_Rel G L h1 H1 := by
  have hw := hR.wf.wr hk hk1 hk2 hh hr
  obtain ⟨⟨r1, r2, r3⟩, r4, r5, r6⟩ := id hR
  obtain ⟨k1, k2, k3, k4⟩ := r4 a (by omega)
  have ha : 200 ≤ a := by
    rcases Int.lt_or_le a 200 with q | q
    · have := (k4 q).2 0
      rw [(am_aimm hk hk1).1] at this
      simp at this
      omega
    · exact q
  obtain ⟨a1, a2, a3⟩ := hR.arr hk hk1 (by omega)
  refine ⟨⟨r1, r2, by rw [hz]; exact r3⟩, fun b hb => ?_, hw.2.2.1, hw.2.2.2⟩
  obtain ⟨b1, b2, b3, b4⟩ := r4 b hb
  refine ⟨b1, b2, ?_, b4⟩
  by_cases e : b = a
  · subst e
    refine Or.inr ⟨by omega, by omega, a1, a2, ?_⟩
    rw [hok, hk]
    congr 2
    funext j
    unfold am_ct
    rw [if_neg (by rw [(am_aimm hk hk1).1]; simp; omega)]
  · exact b3.to rfl rfl (fun i => am_ct_wr e hh i) (ho _ (am_ad_ne hR ha hb e))
/-- n contents of src from sp on, copied to dst from dp on -/
def am_cp (h : am_H) (src dst sp dp n : Int) : am_H := fun b j => if b = dst ∧ dp ≤ j ∧ j < dp + n then h src (sp + (j - dp)) else h b j
set_option maxHeartbeats 1000000 in
theorem x_acopy {i k : Nat} {src dst sp dp n : Int} (hd : decode M.2.1 pc = .ok (.invokestatic i, 3)) (hl : Cond.methodLink M.1.cls i arraycopyName ∈ lw_all) (hnat : Cond.native arraycopyName ∈ lw_all) (hstat : Cond.static arraycopyName ∈ lw_all) (hini : Cond.initialized "java/lang/System" ∈ lw_all) (hk1 : 100 ≤ k) (hk2 : k < 105) (hks : kd L src = k) (hkd : kd L dst = k) (h1 : 0 ≤ sp) (h2 : 0 ≤ dp) (h3 : 0 ≤ n) (h4 : sp + n ≤ ln L src) (h5 : dp + n ≤ ln L dst) (hrest : am_Sm rest = true)
    (kk : am_X G M (d + 1) (pc + 3) ls rest L (am_cp h src dst sp dp n) Q) : am_X G M (d + 1) pc ls (aI n :: aI dp :: aR dst :: aI sp :: aR src :: rest) L h Q := by
  have hkc : k = 100 ∨ k = 101 ∨ k = 102 ∨ k = 103 ∨ k = 104 := by omega
  have hf : am_aty k ≠ .float ∧ am_aty k ≠ .double := by rcases hkc with rfl | rfl | rfl | rfl | rfl <;> exact ⟨by decide, by decide⟩
  have hprim : refKind (am_aty k) = false := by rcases hkc with rfl | rfl | rfl | rfl | rfl <;> rfl
  have hhne : ∀ b j : Int, b ≠ dst → am_cp h src dst sp dp n b j = h b j := fun b j hb => if_neg (fun q => hb q.1)
  have hct : ∀ (a j : Int), kd L a = k → am_ct L h a j = h a j := fun a j ha => by
    unfold am_ct
    rw [if_neg (by rw [(am_aimm ha hk1).1]; simp; omega)]
  have hrg : am_Wf L h → ∀ a j, kd L a = k → am_rg (am_aty k) (h a j) := fun wf a j ha => by
    have := wf.2.2.2 a j
    rw [(am_aimm ha hk1).2, hct a j ha] at this
    exact this
  have hr : am_Wf L h → ∀ j, am_rg (am_aty k) (am_cp h src dst sp dp n dst j) := fun wf j => by
    unfold am_cp
    split
    · exact hrg wf src _ hks
    · exact hrg wf dst j hkd
  refine am_liftH (fun wf => wf.wr hkd hk1 (by omega) hhne (hr wf)) rfl rfl (fun p e R s m args below meth c S H locs cells slots lsR Qf hR hS0 hL w => ?_) kk
  obtain ⟨a1, a2, a3⟩ := hR.arr hks hk1 (by omega)
  obtain ⟨b1, b2, b3⟩ := hR.arr hkd hk1 (by omega)
  have rsp : rg32 sp := ⟨by omega, by omega⟩
  have rdp : rg32 dp := ⟨by omega, by omega⟩
  have rn : rg32 n := ⟨by omega, by omega⟩
  have hK := S.2.2.2.2.2.2.2.2.1
  obtain ⟨-, k0, hk0, cm0, hkk0⟩ := am_isA hK hk1 (by omega) (ln L src).toNat (fun j => am_val G (am_tg (am_aty k)) (am_ct L h src (j : Int)))
  rw [List.map_cons, List.map_cons, List.map_cons, List.map_cons, List.map_cons, am_cvR G (hR.lo (a := dst) (by omega)), am_cvR G (hR.lo (a := src) (by omega))]
  have hl9 := S.2.2.2.2.2.2.2.2.2.1
  have hroom := am_Sm.room (G := G) hrest
  have hlow := hR.wf.2.1 dst (by omega)
  intro T hT X
  obtain ⟨vm', X', step⟩ := X.arraycopy S.1 S.2.2.2.2.1 (S.2.2.2.2.2.1 _ hl) (S.2.2.2.2.2.1 _ hnat) (S.2.2.2.2.2.1 _ hstat) (S.2.2.2.2.2.1 _ hini) (src := am_ad G src) (dst := am_ad G dst) (cs := arrV (G.2.2.2.2.2 k) (ln L src).toNat (fun j => am_val G (am_tg (am_aty k)) (am_ct L h src (j : Int)))) (cd := arrV (G.2.2.2.2.2 k) (ln L dst).toNat (fun j => am_val G (am_tg (am_aty k)) (am_ct L h dst (j : Int)))) (srcPos := Int32.ofInt sp) (destPos := Int32.ofInt dp) (n := Int32.ofInt n) (by rw [hT]; exact a3) (by rw [hT]; exact b3)
    (fun _ h => by cases h) (fun _ h => by cases h) (fun h => by cases h) (fun h => by cases h) hk0 hk0 hkk0 hkk0 (by simp [hprim]) (by rw [am_0, am_lt rsp am_r0]; omega) (by rw [am_0, am_lt rdp am_r0]; omega) (by rw [am_0, am_lt rn am_r0]; omega)
    (by rw [am_ti rsp, am_ti rn, arrV_size]; omega)
    (by rw [am_ti rdp, am_ti rn, arrV_size]; omega)
    (fun vm₁ _ i hi => by
      rw [am_clamp rn] at hi
      rw [am_clamp rsp, Array.getD_eq_getD_getElem?, arrV_read _ _ (by omega), Option.getD_some, hct _ _ hks]
      have hv := hrg hR.wf src ((sp.toNat + i : Nat) : Int) hks
      refine ⟨(am_narrow G hv hf).2, ?_⟩
      rcases hkc with rfl | rfl | rfl | rfl | rfl <;> exact trivial)
    (g := F0 m pc lsR (am_cv G (aI n) :: am_cv G (aI dp) :: .ref (am_ad G dst) :: am_cv G (aI sp) :: .ref (am_ad G src) :: List.map (am_cv G) rest)) rfl (by rw [S.2.2.2.1]; exact hL.1) (rest := List.map (am_cv G) rest) rfl (by rw [S.2.1]; exact hd) (by rw [hl9.1]; omega) (by rw [hl9.2]; show 2 * 0 + _ + (5 + 2 + 11) ≤ _; omega)
  have e1 : copied (arrV (G.2.2.2.2.2 k) (ln L src).toNat (fun j => am_val G (am_tg (am_aty k)) (am_ct L h src (j : Int)))) (arrV (G.2.2.2.2.2 k) (ln L dst).toNat (fun j => am_val G (am_tg (am_aty k)) (am_ct L h dst (j : Int)))) (Int32.ofInt sp) (Int32.ofInt dp) (Int32.ofInt n) = arrV (G.2.2.2.2.2 k) (ln L dst).toNat (fun j => am_val G (am_tg (am_aty k)) (am_cp h src dst sp dp n dst (j : Int))) := by
    show (arrV _ _ _).storeRun (Int32.ofInt dp).toNatClampNeg ((arrV _ _ _).stretch (Int32.ofInt sp).toNatClampNeg (Int32.ofInt n).toNatClampNeg) = _
    rw [am_clamp rsp, am_clamp rdp, am_clamp rn, va_copied (fun z => am_val G (am_tg (am_aty k)) z) (G.2.2.2.2.2 k) (G.2.2.2.2.2 k) (fun j : Nat => am_ct L h src (j : Int)) (fun j : Nat => am_ct L h dst (j : Int)) (by omega)]
    congr 1
    funext j
    unfold va_cpy am_cp
    by_cases e : dp.toNat ≤ j ∧ j < dp.toNat + n.toNat
    · rw [if_pos e, if_pos ⟨rfl, by omega, by omega⟩]
      show am_val G (am_tg (am_aty k)) (am_ct L h src ((sp.toNat + (j - dp.toNat) : Nat) : Int)) = _
      rw [hct _ _ hks, show ((sp.toNat + (j - dp.toNat) : Nat) : Int) = sp + ((j : Int) - dp) by omega]
    · rw [if_neg e, if_neg (fun q => e (by omega))]
      show am_val G (am_tg (am_aty k)) (am_ct L h dst (j : Int)) = _
      rw [hct _ _ hkd]
  rw [e1] at X' step
  have hlt : am_ad G dst < H.size := (Array.getElem?_eq_some_iff.mp b3).1
  generalize hnew : arrV (G.2.2.2.2.2 k) (ln L dst).toNat (fun j => am_val G (am_tg (am_aty k)) (am_cp h src dst sp dp n dst (j : Int))) = cellN at X' step
  have hheap : ((T.setVm vm').setCell (am_ad G dst) cellN).heap = H.setIfInBounds (am_ad G dst) cellN := by rw [← hT]; rfl
  have oq : ∀ q : Nat, q ≠ am_ad G dst → (H.setIfInBounds (am_ad G dst) cellN)[q]? = H[q]? := fun q hq => by simp [Array.getElem?_setIfInBounds, Ne.symm hq]
  have hFr := am_loA hR hkd hk1 (by omega)
  have hRel : am_Rel G L (am_cp h src dst sp dp n) (H.setIfInBounds (am_ad G dst) cellN) := by
    refine hR.wr hkd hk1 (by omega) hhne (hr hR.wf) ?_ (by simp) oq
    rw [hnew]
    simp [Array.getElem?_setIfInBounds, hlt]
  obtain ⟨t, c1, c2⟩ := w _ _ hRel ⟨by simp; exact hS0.1, fun q g1 g2 => by
      rw [oq q (fun e => g2 (by rw [e]; exact hFr))]
      exact hS0.2.1 q g1 g2, fun q hq => by
      rcases List.mem_append.mp hq with h | h
      · exact hS0.2.2 q h
      · obtain ⟨z, -, hz⟩ := List.mem_map.mp h
        rw [← hz]
        exact hFr⟩ _ hheap X'
  exact ⟨t, step t c1, c2⟩
/-- an int array that the layout keeps -/
theorem x_newK {n : Int} (hd : decode M.2.1 pc = .ok (.newarray .int, 2)) (hw : Cond.arrayClass .int ∈ lw_all) (hn : 0 ≤ n ∧ n ≤ 60000000) (kk : (∀ j, fF L (nx L) j = 0) → am_X G M d (pc + 2) ls (aR (nx L) :: st) (am_al L 117 n) h Q) : am_X G M d pc ls (aI n :: st) L h Q := by
  refine am_wf fun wf => am_liftA (fun wf => wf.al (by omega)) (by omega) (fun p e R s m args below meth c S H locs cells slots lsR Qf hR hS0 hL c1 c2 w => ?_) (kk (fun j => (wf.2.2.1 _ j (Int.le_refl _)).2))
  have hr : rg32 n := ⟨by omega, by omega⟩
  refine va_newaK S.1 S.2.1 (atype := .int) (S.2.2.2.2.2.1 _ hw) rfl hd rfl (by show ¬ Int32.ofInt n < 0; rw [am_0, am_lt hr am_r0]; omega) (am_clamp hr) (by show n.toNat * 4 ≤ 536870912; omega) c1 c2 rfl fun H1 cA e1 z1 o1 hAr hNm => ?_
  have hRA := (S.2.2.2.2.2.2.2.2.1.2.1 117 (by decide) (by decide)).2
  have hcA : cA = G.2.2.2.2.2 117 := Option.some.inj (hNm.symm.trans hRA)
  subst hcA
  have := w H1 (am_new_arr hR (by decide) (by decide) ⟨hn.1, by omega⟩ ⟨by decide, by decide⟩ e1 z1 o1) (am_va_push hS0 z1 o1)
  rw [List.map_cons, am_cvR G (by have := hR.1.1; omega), am_ad_nx hR] at this
  exact this
theorem x_iastK {a x v : Int} (hd : decode M.2.1 pc = .ok (.iastore, 1)) (hk : kd L a = 117) (ha : 200 ≤ a) (hx : 0 ≤ x ∧ x < ln L a) (hr : -2147483648 ≤ v ∧ v ≤ 2147483647) (kk : am_X G M d (pc + 1) ls st (am_pf L a x v) h Q) : am_X G M d pc ls (aI v :: aI x :: aR a :: st) L h Q := by
  obtain ⟨e1, e2⟩ := am_aimm (x := x) hk (by decide)
  have e1 : am_imm (kd L a) x = true := by rw [e1]; rfl
  have hr' : am_rg (am_ty (kd L a) x) v := by rw [e2]; exact hr
  have hk9 : kd L a ≠ 99 := by omega
  refine am_liftH (fun wf => wf.pf hk9 e1 hr') rfl rfl (fun p e R s m args below meth c S H locs cells slots lsR Qf hR hS0 hL w => ?_) kk
  obtain ⟨b1, b2, b3⟩ := hR.arr hk (by decide) (by decide)
  rw [List.map_cons, List.map_cons, List.map_cons, am_cvR G (hR.lo hk9)]
  obtain ⟨i1, i2, i3⟩ := am_inA hR hk (by decide) (by decide) hx (fun j => am_val G (am_tg (am_aty 117)) (am_ct L h a (j : Int))) (G.2.2.2.2.2 117)
  refine W.iast S.1 S.2.1 b3 (am_isA S.2.2.2.2.2.2.2.2.1 (by decide) (by decide) _ _) (fun q => by cases q) i2 rfl rfl hd fun H' z1 z2 z3 => ?_
  rw [am_clamp i1] at z1
  refine w H' _ (hR.pf ha hk9 e1 hr' ?_ z2 z3) (hS0.put z2 z3 (by show G.2.1 ≤ am_ad G a; unfold am_ad; rw [if_neg (by omega)]; omega))
  exact am_ast_ok (v := v) hR hk (by decide) (by decide) hx.1 z1 rfl rfl (fun n => by rw [am_ct_pf e1]; simp)
end AMMORE
