/-! METHODS WITH A HANDLER: a start, calls in them, calls of them -/
set_option maxRecDepth 100000
section AMCATCH
variable {G : am_G} {M Y : am_M} {d pc hp : Nat} {ls st rest As : List AV} {L : am_L} {h : am_H} {Q : am_O → am_L → am_H → Prop}
/-- what is asked of a callee with handlers: its words, arity n -/
def am_OkH (Y : am_M) (n : Nat) : Prop := Y.2.2.2.2 ≠ [] ∧ Cond.codeWith Y.1 Y.2.1 Y.2.2.1 Y.2.2.2.1 Y.2.2.2.2 ∈ lw_all ∧ Cond.initialized Y.1.cls ∈ lw_all ∧ (Y.1.cls ≠ "java/lang/invoke/MethodHandle" ∧ Y.1.cls ≠ "java/lang/invoke/VarHandle" ∧ (parseMethodDescriptor Y.1.desc).map (fun d => d.parameters.length) = some n) ∧ Y.2.2.1 ≤ 45 ∧ plainName Y.1.cls = true
theorem am_OkH.ws {Y : am_M} {n : Nat} (h : am_OkH Y n) : am_ws Y = wsW_ Y.1 Y.2.1 Y.2.2.1 Y.2.2.2.1 Y.2.2.2.2 := by
  show am_word Y :: lw_all = _
  unfold am_word
  rw [if_neg h.1]
theorem okX0_readH : am_OkH mX0_read 0 := ⟨fun h => (by cases h), q663, q114, ⟨by decide +kernel, by decide +kernel, by decide +kernel⟩, by decide, by decide +kernel⟩
/-- how the caller goes on, where what is thrown is caught at hp -/
def am_KH (G : am_G) (M : am_M) (d pc hp : Nat) (ls rest : List AV) (Q : am_O → am_L → am_H → Prop) : am_O → am_L → am_H → Prop := fun o L h => match o with
  | .inl [] => am_X G M d (pc + 3) ls rest L h Q
  | .inl [v] => am_X G M d (pc + 3) ls (v :: rest) L h Q
  | .inl _ => False
  | .inr a => kd L a = 1 ∧ am_X G M d hp ls [aR a] L h Q
theorem am_callH {argsA : List AV} {lo hi ct : Nat} (hM : M.2.2.2.2 = [(lo, hi, hp, ct)]) (hcov : lo ≤ pc ∧ pc < hi) (h0 : ct ≠ 0) (hlk : Cond.classLink M.1.cls ct RX1 ∈ lw_all)
    (hrun : ∀ (p : Program) (e : Env) (R : Room) (s : State) (m : MethodId) (args : Array Value) (below : List Frame) (meth : Method) (c : Code), am_S G M d p R s m args meth c →
      ∀ (H : Heap) (locs : List Loc) (cells slots : Nat) (lsR : Array Slot) (o1 : am_O) (L1 : am_L) (h1 : am_H), am_Rel G L h H → va_S (am_Fr G) s.heap H locs → am_LV G lsR M.2.2.1 ls → am_E G Y (d - 1) argsA L h o1 L1 h1 →
        cells + (nx L1 - nx L).toNat ≤ R.cells ∧ slots + (us L1 - us L).toNat ≤ R.slots →
        ∃ a9 : Array Value, xa_Run p G.1 e R s m args below meth c H locs cells slots (nx L1 - nx L).toNat (us L1 - us L).toNat (F0 m pc lsR (st.map (am_cv G))) (rest.map (am_cv G)) (am_QO G o1 L1 h1 a9) (am_XO G o1 L1 h1) (am_Fr G))
    (k : am_C G Y (d - 1) argsA L h (am_KH G M d pc hp ls rest Q)) : am_X G M d pc ls st L h Q := by
  intro wf
  obtain ⟨o1, L1, h1, hQ1, hw1, hm1, hE⟩ := k wf
  rcases o1 with vs | a
  · have hX : ∃ v9 : List AV, am_X G M d (pc + 3) ls (v9 ++ rest) L1 h1 Q ∧ (vs.head?.map (am_cv G)).toList = v9.map (am_cv G) := by
      match vs, hQ1 with
      | [], hQ1 => exact ⟨[], hQ1, rfl⟩
      | [v], hQ1 => exact ⟨[v], hQ1, rfl⟩
    obtain ⟨v9, hX, hv9⟩ := hX
    obtain ⟨o, L', h', hQ, hw, hm, k2⟩ := hX hw1
    refine ⟨o, L', h', hQ, hw, ⟨by omega, by omega⟩, fun p e R s m args below meth c S H locs cells slots lsR hR hS hL e1 e2 => ?_⟩
    obtain ⟨a9, hrn⟩ := hrun p e R s m args below meth c S H locs cells slots lsR _ L1 h1 hR hS hL hE ⟨by omega, by omega⟩
    intro T hT X
    rcases hrn T hT X with ⟨v, st₀, t, T', L9, h0, X', hL9, e3, e4, ⟨⟨vs2, g1, g2⟩, g3⟩, stp⟩ | ⟨q, st₀, t, T', L9, E, ce, h0, X', hL9, e3, e4, ⟨⟨a, g1, -⟩, -⟩, -⟩
    · cases g1
      have g4 : v = vs.head?.map (am_cv G) := Outcome.returned.inj g2
      have hS' := am_sat hS hL9 X'
      obtain ⟨t2, b1, b2⟩ := k2 p e R s m args below meth c S T'.heap (locs ++ L9) _ _ lsR (by rw [e3]; exact g3) hS' hL (by omega) (by omega) T' rfl X'
      refine ⟨t2, stp t2 ?_, b2⟩
      rw [g4, hv9]
      rw [List.map_append] at b1
      exact b1
    · cases g1
  · obtain ⟨hka, hX⟩ : kd L1 a = 1 ∧ am_X G M d hp ls [aR a] L1 h1 Q := hQ1
    obtain ⟨o, L', h', hQ, hw, hm, k2⟩ := hX hw1
    refine ⟨o, L', h', hQ, hw, ⟨by omega, by omega⟩, fun p e R s m args below meth c S H locs cells slots lsR hR hS hL e1 e2 => ?_⟩
    obtain ⟨a9, hrn⟩ := hrun p e R s m args below meth c S H locs cells slots lsR _ L1 h1 hR hS hL hE ⟨by omega, by omega⟩
    intro T hT X
    rcases hrn T hT X with ⟨v, st₀, t, T', L9, hh0, X', hL9, e3, e4, ⟨⟨vs2, g1, g2⟩, g3⟩, stp⟩ | ⟨q, st₀, t, T', L9, E, ce, hh0, X', hL9, e3, e4, ⟨⟨a2, g1, g2, g5, g6⟩, g3⟩, hce, hcv, hcl, stp⟩
    · cases g1
    · cases g1
      subst g2
      subst g6
      have hS' := am_sat hS hL9 X'
      have hR1 : am_Rel G L1 h1 T'.heap := by rw [e3]; exact g3
      have hWW := k2 p e R s m args below meth c S T'.heap (locs ++ L9) (cells + (nx L1 - nx L).toNat) (slots + (us L1 - us L).toNat) lsR hR1 hS' hL (by omega) (by omega)
      have e9 : [aR a].map (am_cv G) = [.ref (am_ad G a)] := by
        rw [List.map_cons, am_cvR G (hR1.lo (by omega)), List.map_nil]
      rw [e9] at hWW
      have hK := S.2.2.2.2.2.2.2.2.1
      have hcast : (Cond.castable RX1 RX1).before args s = true := va_Nw.use rfl (hK.2.2.1 _ q162 rfl)
      have hsp : c.exceptionTable.toList = [] ++ (⟨lo, hi, hp, ct⟩ : ExceptionTableEntry) :: [] := by
        rw [S.2.2.2.2.2.2.2.1, hM]
        rfl
      obtain ⟨t2, b1, b2⟩ := xa_catch (own := M.1.cls) (name := RX1) (E := RX1) (ce := ce) (rest := rest.map (am_cv G)) (pc := pc) (ls := lsR) S.2.2.2.2.1 [] ⟨lo, hi, hp, ct⟩ [] hsp (fun z hz => by cases hz) (by simp [covers, hcov]) h0 (S.2.2.2.2.2.1 _ hlk) hcast (by rw [e3]; exact hce) hcv hcl hWW T' rfl X'
      exact ⟨t2, stp.trans b1, b2⟩
/-- a call through an object, caught at hp -/
theorem x_callVT {i k N n lo hi ct : Nat} {b : Int} {C : String} {T : u_T} (hd : decode M.2.1 pc = .ok (.invokevirtual i, 3)) (hM : M.2.2.2.2 = [(lo, hi, hp, ct)]) (hcov : lo ≤ pc ∧ pc < hi) (h0 : ct ≠ 0) (hlk : Cond.classLink M.1.cls ct RX1 ∈ lw_all) (hY : am_Ok Y n) (hl : Cond.methodLink M.1.cls i Y.1 ∈ lw_all) (hin : Cond.instanceMethod Y.1 ∈ lw_all) (hse : Cond.selects C Y.1 Y.1 ∈ lw_all) (hk : kd L b = k) (hc : am_Cls k C T N) (hn : As.length = n) (hst : st = As.reverse ++ aR b :: rest) (hrest : am_Sm rest = true)
    (kk : am_C G Y d (aR b :: As) L h (am_KH G M (d + 1) pc hp ls rest Q)) : am_X G M (d + 1) pc ls st L h Q := by
  subst hst
  refine am_callH hM hcov h0 hlk (fun p e R s m args below meth c S H locs cells slots lsR o1 L1 h1 hR hS hL hE hf => ⟨#[], ?_⟩) kk
  have hK := S.2.2.2.2.2.2.2.2.1
  have hb0 := hR.lo (a := b) (by have := hc.1; omega)
  have hE' : xa_Met G.1 Y.1 (ws_ Y.1 Y.2.1 Y.2.2.1 Y.2.2.2.1) (am_room d L L1) (am_PO G (aR b :: As) L h) (am_QO G o1 L1 h1) (am_XO G o1 L1 h1) (nx L1 - nx L).toNat (us L1 - us L).toNat (am_Fr G) := by
    rw [← hY.ws]; exact hE
  have cb := callB_of (R := R) (own := M.1.cls) (index := i) (rm := am_room d L L1) n S.2.2.2.2.2.1 (lw_meth hY.2.1) rfl rfl rfl (S.2.2.2.2.2.1 _ hY.2.2.1) (S.2.2.2.2.2.1 _ hl) hY.2.2.2.1 (am_hR S hY.2.2.2.2.1 L1)
  refine xa_runV (As := As.map (am_cv G)) (b := am_ad G b) (C := C) (am_fix S) hE' ⟨cb, S.2.2.2.2.2.1 _ hin, S.2.2.2.2.2.1 _ hse⟩ ⟨am_PO_blind, am_recv hK hR hk hc, fun U hU hW => ?_⟩ rfl (by rw [List.length_map]; exact hn) hL.1 ?_ (lv_room (am_Sm.room hrest)) hd hf
  · have := am_pre hK hS.2.1 hR (aR b :: As) U hU hW
    rw [List.map_cons, am_cvR G hb0] at this
    exact this
  · show (As.reverse ++ aR b :: rest).map (am_cv G) = _
    rw [List.map_append, List.map_reverse, List.map_cons, am_cvR G hb0]
/-- a call of a method with handlers -/
theorem x_callVX {i k N n : Nat} {b : Int} {C : String} {T : u_T} (hd : decode M.2.1 pc = .ok (.invokevirtual i, 3)) (hM : M.2.2.2.2 = []) (hY : am_OkH Y n) (hC : Y.1.cls = C) (hl : Cond.methodLink M.1.cls i Y.1 ∈ lw_all) (hin : Cond.instanceMethod Y.1 ∈ lw_all) (hse : Cond.selects C Y.1 Y.1 ∈ lw_all) (hk : kd L b = k) (hc : am_Cls k C T N) (hn : As.length = n) (hst : st = As.reverse ++ aR b :: rest) (hrest : am_Sm rest = true)
    (kk : am_C G Y d (aR b :: As) L h (am_K G M (d + 1) pc ls rest Q)) : am_X G M (d + 1) pc ls st L h Q := by
  subst hst
  refine am_call hM (fun p e R s m args below meth c S H locs cells slots lsR o1 L1 h1 hR hS hL hE hf => ⟨(Value.ref (am_ad G b) :: As.map (am_cv G)).toArray, ?_⟩) kk
  have hK := S.2.2.2.2.2.2.2.2.1
  have hb0 := hR.lo (a := b) (by have := hc.1; omega)
  have hE' : xa_Met G.1 Y.1 (wsW_ Y.1 Y.2.1 Y.2.2.1 Y.2.2.2.1 Y.2.2.2.2) (am_room d L L1) (am_PO G (aR b :: As) L h) (am_QO G o1 L1 h1) (am_XO G o1 L1 h1) (nx L1 - nx L).toNat (us L1 - us L).toNat (am_Fr G) := by
    rw [← hY.ws]; exact hE
  have cw := xa_cwVW (R := R) (s := s) (args := args) (own := M.1.cls) (C := C) (index := i) (rm := am_room d L L1) n S.2.2.2.2.2.1 (lw_VW hl hin hse (by rw [← hC]; exact hY.2.2.1) hY.2.1) rfl rfl rfl ⟨hC, hY.2.2.2.1⟩ (am_hR S hY.2.2.2.2.1 L1)
  refine xa_runVX (As := As.map (am_cv G)) (b := am_ad G b) (C := C) (am_fix S) hE' cw ⟨am_PO_blind, am_recv hK hR hk hc, fun U hU hW => ?_⟩ rfl (by rw [List.length_map]; exact hn) hL.1 ?_ (lv_room (am_Sm.room hrest)) hd hf
  · have := am_pre hK hS.2.1 hR (aR b :: As) U hU hW
    rw [List.map_cons, am_cvR G hb0] at this
    exact this
  · show (As.reverse ++ aR b :: rest).map (am_cv G) = _
    rw [List.map_append, List.map_reverse, List.map_cons, am_cvR G hb0]
/-- the start of a method with handlers -/
theorem x_startH {n : Nat} {argsA ls0 : List AV} (hY : am_OkH M n) (ha : argsA.all (fun v => v.1 == 0 || v.1 == 1 || v.1 == 2) = true) (hls : am_en argsA M.2.2.1 = ls0) (hlen : decide (ls0.length = M.2.2.1) = true) (hsl : decide ((argsA.map (fun v => if v.1 = 2 then 2 else 1)).sum ≤ M.2.2.1) = true)
    (k : am_X G M d 0 ls0 [] L h Q) : am_C G M d argsA L h Q := by
  intro wf
  obtain ⟨o, L', h', hQ, hw, hm, k⟩ := k wf
  refine ⟨o, L', h', hQ, hw, hm, ?_⟩
  unfold am_E
  rw [hY.ws]
  refine xa_ofWH (cc := M.2.1) (maxL := M.2.2.1) (ret := M.2.2.2.1) (hh := M.2.2.2.2) hY.2.2.2.2.2 rfl ?_
  intro p e s m args below meth c s₁ B hml hv
  obtain ⟨rfl, hK, hR⟩ := hv
  have hts := atoms_spec (ws := wsW_ M.1 M.2.1 M.2.2.1 M.2.2.2.1 M.2.2.2.2) B.pre
  have hco := hts _ (List.mem_cons_self ..)
  have hts : ∀ w ∈ lw_all, w.before _ s = true := fun w h => hts w (List.mem_cons_of_mem _ h)
  have hown : s.vm.findClass M.1.cls = some m.cls := findClass_of_methodNamed B.named
  have hsz : G.2.1 ≤ s.heap.size := by rw [hR.1.2.2]; omega
  have hlen := of_decide_eq_true hlen
  have hcs : (lg_sl (argsA.map (am_cv G))).length ≤ M.2.2.1 := by
    have h2 := am_sllen (G := G) argsA ha
    rw [h2]
    exact of_decide_eq_true hsl
  rw [lg_entry_eq]
  have hl := lv_entry (argsA.map (am_cv G)) (n := M.2.2.1) hcs
  refine k p e _ s m _ below meth c ⟨B.exec, B.bytes, B.returns, hml, hown, hts, B.notSynchronized, xa_table (x := M.1) B hco, hK, ⟨rfl, rfl⟩, (name_of_methodNamed B.named B.method).1, hsz⟩ s.heap [] 0 0 _ hR va_S.rf ⟨hl.1, hl.2.1, by omega, fun j v hj h3 => ?_⟩ ?_ ?_
  · rw [← hls] at hj
    have := hl.2.2 _ (am_en_args (G := G) argsA M.2.2.1 0 j v ha hj h3)
    rw [Nat.zero_add] at this
    exact this
  · show ((0 : Nat) : Int) + (nx L' - nx L) = (((nx L' - nx L).toNat : Nat) : Int)
    omega
  · show ((0 : Nat) : Int) + (us L' - us L) = (((us L' - us L).toNat : Nat) : Int)
    omega
end AMCATCH
