/-! CALLS -/
set_option maxRecDepth 100000
/-- what is asked of a callee without handlers: its words, arity n -/
def am_Ok (Y : am_M) (n : Nat) : Prop := Y.2.2.2.2 = [] ∧ Cond.code Y.1 Y.2.1 Y.2.2.1 Y.2.2.2.1 ∈ lw_all ∧ Cond.initialized Y.1.cls ∈ lw_all ∧ (Y.1.cls ≠ "java/lang/invoke/MethodHandle" ∧ Y.1.cls ≠ "java/lang/invoke/VarHandle" ∧ (parseMethodDescriptor Y.1.desc).map (fun d => d.parameters.length) = some n) ∧ Y.2.2.1 ≤ 45 ∧ plainName Y.1.cls = true
theorem am_Ok.ws {Y : am_M} {n : Nat} (h : am_Ok Y n) : am_ws Y = ws_ Y.1 Y.2.1 Y.2.2.1 Y.2.2.2.1 := by
  show am_word Y :: lw_all = _
  unfold am_word
  rw [if_pos h.1]
section AMCALL
variable {G : am_G} {M Y : am_M} {d pc : Nat} {ls st rest As : List AV} {L : am_L} {h : am_H} {Q : am_O → am_L → am_H → Prop}
/-- how the caller goes on -/
def am_K (G : am_G) (M : am_M) (d pc : Nat) (ls rest : List AV) (Q : am_O → am_L → am_H → Prop) : am_O → am_L → am_H → Prop := fun o L h => match o with
  | .inl [] => am_X G M d (pc + 3) ls rest L h Q
  | .inl [v] => am_X G M d (pc + 3) ls (v :: rest) L h Q
  | .inl _ => False
  | .inr a => kd L a = 1 ∧ Q (.inr a) L h
theorem x_k0 (k : am_X G M d (pc + 3) ls rest L h Q) : am_K G M d pc ls rest Q (.inl []) L h := k
theorem x_k1 {v : AV} (k : am_X G M d (pc + 3) ls (v :: rest) L h Q) : am_K G M d pc ls rest Q (.inl [v]) L h := k
theorem x_kx {a : Int} (k : kd L a = 1 ∧ Q (.inr a) L h) : am_K G M d pc ls rest Q (.inr a) L h := k
theorem am_PO_blind {args : List AV} : FrameBlind (am_PO G args L h) := fun a U g mk q => ⟨q.1, am_KK.same (s := U) (U := U.calling g mk a) rfl (fun _ _ _ => rfl) q.2.1, q.2.2⟩
theorem am_sat {p : Program} {e : Env} {R : Room} {s : State} {m : MethodId} {args : Array Value} {below : List Frame} {meth : Method} {c : Code} {H : Heap} {locs L9 : List Loc} {cells slots : Nat} {T' : State} (hS : va_S (am_Fr G) s.heap H locs) (hL : ∀ q ∈ L9, am_Fr G q.base) (X' : Stand p G.1 e R s m args below meth c T' (locs ++ L9) cells slots) : va_S (am_Fr G) s.heap T'.heap (locs ++ L9) := by
  have hall : ∀ z ∈ locs ++ L9, am_Fr G z.base := fun z hz => (List.mem_append.mp hz).elim (hS.2.2 z) (hL z)
  obtain ⟨a1, a2⟩ := xa_frame (s := s) (U := T') X'.same
  exact ⟨a1, fun q hq hn => a2 q hq (fun z hz e => hn (by rw [← e]; exact hall z hz)), hall⟩
/-- a run of the callee, and how it goes on -/
theorem am_call {argsA : List AV} (hM : M.2.2.2.2 = [])
    (hrun : ∀ (p : Program) (e : Env) (R : Room) (s : State) (m : MethodId) (args : Array Value) (below : List Frame) (meth : Method) (c : Code), am_S G M d p R s m args meth c →
      ∀ (H : Heap) (locs : List Loc) (cells slots : Nat) (lsR : Array Slot) (o1 : am_O) (L1 : am_L) (h1 : am_H), am_Rel G L h H → va_S (am_Fr G) s.heap H locs → am_LV G lsR M.2.2.1 ls → am_E G Y (d - 1) argsA L h o1 L1 h1 →
        cells + (nx L1 - nx L).toNat ≤ R.cells ∧ slots + (us L1 - us L).toNat ≤ R.slots →
        ∃ a9 : Array Value, xa_Run p G.1 e R s m args below meth c H locs cells slots (nx L1 - nx L).toNat (us L1 - us L).toNat (F0 m pc lsR (st.map (am_cv G))) (rest.map (am_cv G)) (am_QO G o1 L1 h1 a9) (am_XO G o1 L1 h1) (am_Fr G))
    (k : am_C G Y (d - 1) argsA L h (am_K G M d pc ls rest Q)) : am_X G M d pc ls st L h Q := by
  intro wf
  obtain ⟨o1, L1, h1, hQ1, hw1, hm1, hE⟩ := k wf
  rcases o1 with vs | a
  · have hX : ∃ v9 : List AV, am_X G M d (pc + 3) ls (v9 ++ rest) L1 h1 Q ∧ (vs.head?.map (am_cv G)).toList = v9.map (am_cv G) := by
      match vs, hQ1 with
      | [], hQ1 => exact ⟨[], hQ1, rfl⟩
      | [v], hQ1 => exact ⟨[v], hQ1, rfl⟩
    obtain ⟨v9, hX, hv9⟩ := hX
    obtain ⟨o, L', h', hQ, hw, hm, k2⟩ := hX hw1
    refine ⟨o, L', h', hQ, hw, ⟨by omega, by omega⟩, fun p e R s m args below meth c S H locs cells slots lsR hR hS hL e1 e2 => ?_⟩
    obtain ⟨a9, hrn⟩ := hrun p e R s m args below meth c S H locs cells slots lsR _ L1 h1 hR hS hL hE ⟨by omega, by omega⟩
    intro T hT X
    rcases hrn T hT X with ⟨v, st₀, t, T', L9, h0, X', hL9, e3, e4, ⟨⟨vs2, g1, g2⟩, g3⟩, stp⟩ | ⟨q, st₀, t, T', L9, E, ce, h0, X', hL9, e3, e4, ⟨⟨a, g1, -⟩, -⟩, -⟩
    · cases g1
      have g4 : v = vs.head?.map (am_cv G) := Outcome.returned.inj g2
      have hS' := am_sat hS hL9 X'
      obtain ⟨t2, b1, b2⟩ := k2 p e R s m args below meth c S T'.heap (locs ++ L9) _ _ lsR (by rw [e3]; exact g3) hS' hL (by omega) (by omega) T' rfl X'
      refine ⟨t2, stp t2 ?_, b2⟩
      rw [g4, hv9]
      rw [List.map_append] at b1
      exact b1
    · cases g1
  · obtain ⟨hka, hQa⟩ : kd L1 a = 1 ∧ Q (.inr a) L1 h1 := hQ1
    refine ⟨.inr a, L1, h1, hQa, hw1, hm1, fun p e R s m args below meth c S H locs cells slots lsR hR hS hL e1 e2 => ?_⟩
    obtain ⟨a9, hrn⟩ := hrun p e R s m args below meth c S H locs cells slots lsR _ L1 h1 hR hS hL hE ⟨by omega, by omega⟩
    intro T hT X
    rcases hrn T hT X with ⟨v, st₀, t, T', L9, h0, X', hL9, e3, e4, ⟨⟨vs2, g1, g2⟩, g3⟩, stp⟩ | ⟨q, st₀, t, T', L9, E, ce, h0, X', hL9, e3, e4, ⟨⟨a2, g1, g2, g5, g6⟩, g3⟩, hce, hcv, hcl, stp⟩
    · cases g1
    · cases g1
      have hS' := am_sat hS hL9 X'
      have hout : ∀ x ∈ c.exceptionTable.toList, covers x pc = false := by
        rw [S.2.2.2.2.2.2.2.1, hM]
        intro x hx
        cases hx
      obtain ⟨t2, b1, b2⟩ := xa_out (Qc := am_QO G (.inr a) L1 h1) (XC := am_XO G (.inr a) L1 h1) (free := am_Fr G) (mc := R.cells) (ms := R.slots) (H := T'.heap) (rest := rest.map (am_cv G)) (pc := pc) (ls := lsR) hout S.2.2.2.2.2.2.1 (by rw [e3]; exact hce) hcv hcl
        (fun t9 ht9 _ => ⟨⟨a, rfl, g2, g5, g6⟩, by rw [ht9, e3]; exact g3⟩) hS'.2.2 (by omega) (by omega) T' rfl X'
      exact ⟨t2, stp.trans b1, b2⟩
theorem am_catsum {rest : List AV} (hr : decide ((rest.map (fun v => if v.1 = 2 then 2 else 1)).sum ≤ 8) = true) (hv : rest.all (fun v => v.1 == 0 || v.1 == 1 || v.1 == 2) = true) : ((rest.map (am_cv G)).map fun v => v.category).sum ≤ 8 := by
  have h1 := of_decide_eq_true hr
  have h2 : ((rest.map (am_cv G)).map fun v => v.category) = rest.map (fun v => if v.1 = 2 then 2 else 1) := by
    rw [List.map_map]
    apply List.map_congr_left
    intro v hvm
    have h3 := List.all_eq_true.mp hv v hvm
    obtain ⟨t, z⟩ := v
    simp only [Bool.or_eq_true, beq_iff_eq] at h3
    rcases h3 with (rfl | rfl) | rfl
    · rfl
    · show (am_cv G (1, z)).category = _
      by_cases e : z = 0 <;> simp [am_cv, am_val, e, Value.category]
    · rfl
  rw [h2]
  exact h1
/-- what stands under the arguments is small -/
def am_Sm (rest : List AV) : Bool := decide ((rest.map (fun v => if v.1 = 2 then 2 else 1)).sum ≤ 8) && rest.all (fun v => v.1 == 0 || v.1 == 1 || v.1 == 2)
theorem am_Sm.room {rest : List AV} (h : am_Sm rest = true) : ((rest.map (am_cv G)).map fun v => v.category).sum ≤ 8 := by
  unfold am_Sm at h
  rw [Bool.and_eq_true] at h
  exact am_catsum h.1 h.2
theorem am_hR {p : Program} {R : Room} {s : State} {m : MethodId} {args : Array Value} {meth : Method} {c : Code} (S : am_S G M (d + 1) p R s m args meth c) (hY : Y.2.2.1 ≤ 45) (L1 : am_L) : (am_room d L L1).frames + 1 ≤ R.frames ∧ 8 + (Y.2.2.1 + 11) + (am_room d L L1).locals ≤ R.locals := by
  obtain ⟨h1, h2⟩ := S.2.2.2.2.2.2.2.2.2.1
  rw [h1, h2]
  refine ⟨Nat.le_refl _, ?_⟩
  show 8 + (Y.2.2.1 + 11) + 64 * d ≤ 64 * (d + 1)
  omega
theorem am_fix {p : Program} {R : Room} {s : State} {m : MethodId} {args : Array Value} {meth : Method} {c : Code} (S : am_S G M d p R s m args meth c) : CallFix p m c M.2.1 M.2.2.1 s args lw_all M.1.cls := ⟨S.1, S.2.1, S.2.2.2.1, S.2.2.2.2.1, S.2.2.2.2.2.1⟩
theorem am_pre {s : State} {H : Heap} (hK : am_KK G s) (hS : ∀ q : Nat, q < s.heap.size → ¬ am_Fr G q → H[q]? = s.heap[q]?) (hR : am_Rel G L h H) (argsA : List AV) : ∀ U : State, U.heap = H → s.WarmedH U.vm → am_PO G argsA L h (argsA.map (am_cv G)).toArray U := fun U hU hW => ⟨rfl, hK.warm hW (by rw [hU]; exact hS), by rw [hU]; exact hR⟩
theorem am_recv {s : State} {H : Heap} (hK : am_KK G s) (hR : am_Rel G L h H) {b : Int} {k N : Nat} {C : String} {T : u_T} (hk : kd L b = k) (hc : am_Cls k C T N) : ∃ cellB : Cell, H[am_ad G b]? = some cellB ∧ cellB.vm.isStatics = false ∧ s.vm.findClass C = some cellB.cls := by
  obtain ⟨cell, q1, q2, q3, -⟩ := hR.obj hk hc.1 hc.2.1
  exact ⟨cell, q1, by rw [q3]; rfl, by rw [q2]; exact (hK.1 k _ hc.2.1).2.1⟩
/-- through an object of the method's own class -/
theorem x_callV {i k N n : Nat} {b : Int} {C : String} {T : u_T} (hd : decode M.2.1 pc = .ok (.invokevirtual i, 3)) (hM : M.2.2.2.2 = []) (hY : am_Ok Y n) (hl : Cond.methodLink M.1.cls i Y.1 ∈ lw_all) (hin : Cond.instanceMethod Y.1 ∈ lw_all) (hse : Cond.selects C Y.1 Y.1 ∈ lw_all) (hk : kd L b = k) (hc : am_Cls k C T N) (hn : As.length = n) (hst : st = As.reverse ++ aR b :: rest) (hrest : am_Sm rest = true)
    (kk : am_C G Y d (aR b :: As) L h (am_K G M (d + 1) pc ls rest Q)) : am_X G M (d + 1) pc ls st L h Q := by
  subst hst
  refine am_call hM (fun p e R s m args below meth c S H locs cells slots lsR o1 L1 h1 hR hS hL hE hf => ⟨#[], ?_⟩) kk
  have hK := S.2.2.2.2.2.2.2.2.1
  have hb0 := hR.lo (a := b) (by have := hc.1; omega)
  have hE' : xa_Met G.1 Y.1 (ws_ Y.1 Y.2.1 Y.2.2.1 Y.2.2.2.1) (am_room d L L1) (am_PO G (aR b :: As) L h) (am_QO G o1 L1 h1) (am_XO G o1 L1 h1) (nx L1 - nx L).toNat (us L1 - us L).toNat (am_Fr G) := by
    rw [← hY.ws]; exact hE
  have cb := callB_of (R := R) (own := M.1.cls) (index := i) (rm := am_room d L L1) n S.2.2.2.2.2.1 (lw_meth hY.2.1) rfl rfl rfl (S.2.2.2.2.2.1 _ hY.2.2.1) (S.2.2.2.2.2.1 _ hl) hY.2.2.2.1 (am_hR S hY.2.2.2.2.1 L1)
  refine xa_runV (As := As.map (am_cv G)) (b := am_ad G b) (C := C) (am_fix S) hE' ⟨cb, S.2.2.2.2.2.1 _ hin, S.2.2.2.2.2.1 _ hse⟩ ⟨am_PO_blind, am_recv hK hR hk hc, fun U hU hW => ?_⟩ rfl (by rw [List.length_map]; exact hn) hL.1 ?_ (lv_room (am_Sm.room hrest)) hd hf
  · have := am_pre hK hS.2.1 hR (aR b :: As) U hU hW
    rw [List.map_cons, am_cvR G hb0] at this
    exact this
  · show (As.reverse ++ aR b :: rest).map (am_cv G) = _
    rw [List.map_append, List.map_reverse, List.map_cons, am_cvR G hb0]
/-- static -/
theorem x_callS {i n : Nat} (hd : decode M.2.1 pc = .ok (.invokestatic i, 3)) (hM : M.2.2.2.2 = []) (hY : am_Ok Y n) (hl : Cond.methodLink M.1.cls i Y.1 ∈ lw_all) (hs : Cond.static Y.1 ∈ lw_all) (hn : As.length = n) (hst : st = As.reverse ++ rest) (hrest : am_Sm rest = true)
    (kk : am_C G Y d As L h (am_K G M (d + 1) pc ls rest Q)) : am_X G M (d + 1) pc ls st L h Q := by
  subst hst
  refine am_call hM (fun p e R s m args below meth c S H locs cells slots lsR o1 L1 h1 hR hS hL hE hf => ⟨#[], ?_⟩) kk
  have hK := S.2.2.2.2.2.2.2.2.1
  have hE' : xa_Met G.1 Y.1 (ws_ Y.1 Y.2.1 Y.2.2.1 Y.2.2.2.1) (am_room d L L1) (am_PO G As L h) (am_QO G o1 L1 h1) (am_XO G o1 L1 h1) (nx L1 - nx L).toNat (us L1 - us L).toNat (am_Fr G) := by
    rw [← hY.ws]; exact hE
  have cb := callB_of (R := R) (own := M.1.cls) (index := i) (rm := am_room d L L1) n S.2.2.2.2.2.1 (lw_meth hY.2.1) rfl rfl rfl (S.2.2.2.2.2.1 _ hY.2.2.1) (S.2.2.2.2.2.1 _ hl) hY.2.2.2.1 (am_hR S hY.2.2.2.2.1 L1)
  refine xa_runS (As := As.map (am_cv G)) (am_fix S) hE' ⟨cb, S.2.2.2.2.2.1 _ hs⟩ ⟨am_PO_blind, fun U hU hW => am_pre hK hS.2.1 hR As U hU hW⟩ rfl (by rw [List.length_map]; exact hn) hL.1 ?_ (lv_room (am_Sm.room hrest)) hd hf
  show (As.reverse ++ rest).map (am_cv G) = _
  rw [List.map_append, List.map_reverse]
/-- a constructor -/
theorem x_callI {i n : Nat} {b : Int} (hd : decode M.2.1 pc = .ok (.invokespecial i, 3)) (hM : M.2.2.2.2 = []) (hY : am_Ok Y n) (hr : Y.2.2.2.1 = none) (hnm : Y.1.name = "<init>") (hl : Cond.methodLink M.1.cls i Y.1 ∈ lw_all) (hin : Cond.instanceMethod Y.1 ∈ lw_all) (hb : kd L b ≠ 99) (hn : As.length = n) (hst : st = As.reverse ++ aR b :: rest) (hrest : am_Sm rest = true)
    (kk : am_C G Y d (aR b :: As) L h (am_K G M (d + 1) pc ls rest Q)) : am_X G M (d + 1) pc ls st L h Q := by
  subst hst
  refine am_call hM (fun p e R s m args below meth c S H locs cells slots lsR o1 L1 h1 hR hS hL hE hf => ⟨#[], ?_⟩) kk
  have hK := S.2.2.2.2.2.2.2.2.1
  have hb0 := hR.lo (a := b) hb
  have hE' : xa_Met G.1 Y.1 (ws_ Y.1 Y.2.1 Y.2.2.1 none) (am_room d L L1) (am_PO G (aR b :: As) L h) (am_QO G o1 L1 h1) (am_XO G o1 L1 h1) (nx L1 - nx L).toNat (us L1 - us L).toNat (am_Fr G) := by
    rw [← hr, ← hY.ws]; exact hE
  have cb := callB_of (R := R) (own := M.1.cls) (index := i) (rm := am_room d L L1) (mc := (nx L1 - nx L).toNat) (ms := (us L1 - us L).toNat) n S.2.2.2.2.2.1 (lw_meth (show Cond.code Y.1 Y.2.1 Y.2.2.1 none ∈ lw_all by rw [← hr]; exact hY.2.1)) rfl rfl rfl (S.2.2.2.2.2.1 _ hY.2.2.1) (S.2.2.2.2.2.1 _ hl) hY.2.2.2.1 (am_hR S hY.2.2.2.2.1 L1)
  refine xa_runI (As := As.map (am_cv G)) (b := am_ad G b) (am_fix S) hE' ⟨cb, hnm, S.2.2.2.2.2.1 _ hin⟩ ⟨am_PO_blind, fun U hU hW => ?_⟩ rfl (by rw [List.length_map]; exact hn) hL.1 ?_ (lv_room (am_Sm.room hrest)) hd hf
  · have := am_pre hK hS.2.1 hR (aR b :: As) U hU hW
    rw [List.map_cons, am_cvR G hb0] at this
    exact this
  · show (As.reverse ++ aR b :: rest).map (am_cv G) = _
    rw [List.map_append, List.map_reverse, List.map_cons, am_cvR G hb0]
/-- Object's own constructor -/
theorem x_objInit {i : Nat} {b : Int} (hd : decode M.2.1 pc = .ok (.invokespecial i, 3)) (hl : Cond.methodLink M.1.cls i Lib.objectInit ∈ lw_all) (hin : Cond.instanceMethod Lib.objectInit ∈ lw_all) (hco : Cond.code Lib.objectInit ⟨#[0xb1]⟩ 1 none ∈ lw_all) (hb : kd L b ≠ 99) (hrest : am_Sm rest = true)
    (kk : am_X G M (d + 1) (pc + 3) ls rest L h Q) : am_X G M (d + 1) pc ls (aR b :: rest) L h Q := by
  refine am_lift (fun p e R s m args below meth c S H locs cells slots lsR Qf hR hL w => ?_) kk
  rw [List.map_cons, am_cvR G (hR.lo hb)]
  have h1 := S.2.2.2.2.2.2.2.2.2.1
  have h2 := am_Sm.room (G := G) hrest
  refine W.objInit S.1 S.2.1 S.2.2.2.2.1 (S.2.2.2.2.2.1 _ hl) (S.2.2.2.2.2.1 _ hin) (S.2.2.2.2.2.1 _ hco) rfl (by rw [S.2.2.2.1]; exact hL.1) rfl hd (by rw [h1.1]; omega) ?_ w
  rw [h1.2]
  show 2 * 0 + _ + 12 ≤ 64 * (d + 1)
  omega
/-- a nest mate's private constructor -/
theorem x_callIN {i n : Nat} {b : Int} {host : String} (hd : decode M.2.1 pc = .ok (.invokespecial i, 3)) (hM : M.2.2.2.2 = []) (hY : am_Ok Y n) (hr : Y.2.2.2.1 = none) (hnm : Y.1.name = "<init>") (hl : Cond.methodLinkNest M.1.cls i Y.1 host ∈ lw_tbl) (hin : Cond.instanceMethod Y.1 ∈ lw_all) (hb : kd L b ≠ 99) (hn : As.length = n) (hst : st = As.reverse ++ aR b :: rest) (hrest : am_Sm rest = true)
    (kk : am_C G Y d (aR b :: As) L h (am_K G M (d + 1) pc ls rest Q)) : am_X G M (d + 1) pc ls st L h Q := by
  subst hst
  refine am_call hM (fun p e R s m args below meth c S H locs cells slots lsR o1 L1 h1 hR hS hL hE hf => ⟨#[], ?_⟩) kk
  have hK := S.2.2.2.2.2.2.2.2.1
  have hb0 := hR.lo (a := b) hb
  have hE' : xa_Met G.1 Y.1 (ws_ Y.1 Y.2.1 Y.2.2.1 none) (am_room d L L1) (am_PO G (aR b :: As) L h) (am_QO G o1 L1 h1) (am_XO G o1 L1 h1) (nx L1 - nx L).toNat (us L1 - us L).toNat (am_Fr G) := by
    rw [← hr, ← hY.ws]; exact hE
  have cb := va_cnB (R := R) (own := M.1.cls) (index := i) (rm := am_room d L L1) (mc := (nx L1 - nx L).toNat) (ms := (us L1 - us L).toNat) n S.2.2.2.2.2.1 (lw_meth (show Cond.code Y.1 Y.2.1 Y.2.2.1 none ∈ lw_all by rw [← hr]; exact hY.2.1)) rfl rfl rfl (hK.2.2.1 _ hl rfl) (S.2.2.2.2.2.1 _ hY.2.2.1) hY.2.2.2.1 (am_hR S hY.2.2.2.2.1 L1)
  refine xa_runIN (As := As.map (am_cv G)) (b := am_ad G b) (am_fix S) hE' ⟨cb, hnm, S.2.2.2.2.2.1 _ hin⟩ ⟨am_PO_blind, fun U hU hW => ?_⟩ rfl (by rw [List.length_map]; exact hn) hL.1 ?_ (lv_room (am_Sm.room hrest)) hd hf
  · have := am_pre hK hS.2.1 hR (aR b :: As) U hU hW
    rw [List.map_cons, am_cvR G hb0] at this
    exact this
  · show (As.reverse ++ aR b :: rest).map (am_cv G) = _
    rw [List.map_append, List.map_reverse, List.map_cons, am_cvR G hb0]
/-- a nest mate's private static method -/
theorem x_callSN {i n : Nat} {host : String} (hd : decode M.2.1 pc = .ok (.invokestatic i, 3)) (hM : M.2.2.2.2 = []) (hY : am_Ok Y n) (hl : Cond.methodLinkNest M.1.cls i Y.1 host ∈ lw_tbl) (hs : Cond.static Y.1 ∈ lw_all) (hn : As.length = n) (hst : st = As.reverse ++ rest) (hrest : am_Sm rest = true)
    (kk : am_C G Y d As L h (am_K G M (d + 1) pc ls rest Q)) : am_X G M (d + 1) pc ls st L h Q := by
  subst hst
  refine am_call hM (fun p e R s m args below meth c S H locs cells slots lsR o1 L1 h1 hR hS hL hE hf => ⟨#[], ?_⟩) kk
  have hK := S.2.2.2.2.2.2.2.2.1
  have hE' : xa_Met G.1 Y.1 (ws_ Y.1 Y.2.1 Y.2.2.1 Y.2.2.2.1) (am_room d L L1) (am_PO G As L h) (am_QO G o1 L1 h1) (am_XO G o1 L1 h1) (nx L1 - nx L).toNat (us L1 - us L).toNat (am_Fr G) := by
    rw [← hY.ws]; exact hE
  have cb := va_cnB (R := R) (own := M.1.cls) (index := i) (rm := am_room d L L1) (mc := (nx L1 - nx L).toNat) (ms := (us L1 - us L).toNat) n S.2.2.2.2.2.1 (lw_meth hY.2.1) rfl rfl rfl (hK.2.2.1 _ hl rfl) (S.2.2.2.2.2.1 _ hY.2.2.1) hY.2.2.2.1 (am_hR S hY.2.2.2.2.1 L1)
  refine xa_runSN (As := As.map (am_cv G)) (am_fix S) hE' ⟨cb, S.2.2.2.2.2.1 _ hs, trivial⟩ ⟨am_PO_blind, fun U hU hW => am_pre hK hS.2.1 hR As U hU hW⟩ rfl (by rw [List.length_map]; exact hn) hL.1 ?_ (lv_room (am_Sm.room hrest)) hd hf
  show (As.reverse ++ rest).map (am_cv G) = _
  rw [List.map_append, List.map_reverse]
/-- through an abstract method x of the class owner, to the method Y of the object's class C -/
theorem x_callA {i k N n : Nat} {b : Int} {C owner : String} {T : u_T} {x : MethodName} (hd : decode M.2.1 pc = .ok (.invokevirtual i, 3)) (hM : M.2.2.2.2 = []) (hY : am_Ok Y n) (hl : Cond.methodLink M.1.cls i x ∈ lw_all) (hsm : Cond.sameMethod x.cls owner x.name x.desc ∈ lw_all) (hdc : Cond.declares ⟨owner, x.name, x.desc⟩ ∈ lw_tbl) (ho : owner ≠ "java/lang/invoke/MethodHandle" ∧ owner ≠ "java/lang/invoke/VarHandle" ∧ (parseMethodDescriptor x.desc).map (fun d => d.parameters.length) = some n) (hin : Cond.instanceMethod Y.1 ∈ lw_all) (hse : Cond.selects C x Y.1 ∈ lw_all) (hk : kd L b = k) (hc : am_Cls k C T N) (hn : As.length = n) (hst : st = As.reverse ++ aR b :: rest) (hrest : am_Sm rest = true)
    (kk : am_C G Y d (aR b :: As) L h (am_K G M (d + 1) pc ls rest Q)) : am_X G M (d + 1) pc ls st L h Q := by
  subst hst
  refine am_call hM (fun p e R s m args below meth c S H locs cells slots lsR o1 L1 h1 hR hS hL hE hf => ⟨#[], ?_⟩) kk
  have hK := S.2.2.2.2.2.2.2.2.1
  have hb0 := hR.lo (a := b) (by have := hc.1; omega)
  have hE' : xa_Met G.1 Y.1 (ws_ Y.1 Y.2.1 Y.2.2.1 Y.2.2.2.1) (am_room d L L1) (am_PO G (aR b :: As) L h) (am_QO G o1 L1 h1) (am_XO G o1 L1 h1) (nx L1 - nx L).toNat (us L1 - us L).toNat (am_Fr G) := by
    rw [← hY.ws]; exact hE
  have hT : GoodIn lw_all (va_wsU M.1.cls i C owner x Y.1 (ws_ Y.1 Y.2.1 Y.2.2.1 Y.2.2.2.1)) := by
    refine lw_app ?_ (lw_meth hY.2.1)
    intro w hw
    simp only [List.mem_cons, List.not_mem_nil, or_false] at hw
    rcases hw with e | e | e | e | e
    · rw [e]; exact hl
    · rw [e]; exact hsm
    · rw [e]; exact hse
    · rw [e]; exact hin
    · rw [e]; exact hY.2.2.1
  have cw := va_cwA (R := R) (rm := am_room d L L1) (mc := (nx L1 - nx L).toNat) (ms := (us L1 - us L).toNat) n S.2.2.2.2.2.1 hT rfl rfl rfl (hK.2.2.1 _ hdc rfl) ho (am_hR S hY.2.2.2.2.1 L1)
  refine xa_runU (As := As.map (am_cv G)) (b := am_ad G b) (C := C) (am_fix S) hE' cw ⟨am_PO_blind, am_recv hK hR hk hc, fun U hU hW => ?_⟩ rfl (by rw [List.length_map]; exact hn) hL.1 ?_ (lv_room (am_Sm.room hrest)) hd hf
  · have := am_pre hK hS.2.1 hR (aR b :: As) U hU hW
    rw [List.map_cons, am_cvR G hb0] at this
    exact this
  · show (As.reverse ++ aR b :: rest).map (am_cv G) = _
    rw [List.map_append, List.map_reverse, List.map_cons, am_cvR G hb0]
/-- thrown -/
theorem x_athrow {a : Int} (hd : decode M.2.1 pc = .ok (.athrow, 1)) (hM : M.2.2.2.2 = []) (hk : kd L a = 1) (k : Q (.inr a) L h) : am_X G M d pc ls (aR a :: rest) L h Q := fun wf => ⟨.inr a, L, h, k, wf, ⟨Int.le_refl _, Int.le_refl _⟩, fun p e R s m args below meth c S H locs cells slots lsR hR hS hL e1 e2 => by
  rw [List.map_cons, am_cvR G (hR.lo (by omega))]
  obtain ⟨cell, q1, q2, q3, -⟩ := hR.obj hk am_k1.1 am_k1.2.1
  have hK := S.2.2.2.2.2.2.2.2.1
  have hcls := (hK.1 1 _ am_k1.2.1).2.1
  refine xa_athrow S.1 S.2.1 hd (xa_out (E := RX1) (ce := cell) ?_ S.2.2.2.2.2.2.1 q1 q3 (by rw [q2]; exact hcls) (fun t9 ht9 _ => ⟨⟨a, rfl, rfl, hk, rfl⟩, by rw [ht9]; exact hR⟩) hS.2.2 (by omega) (by omega))
  rw [S.2.2.2.2.2.2.2.1, hM]
  intro x hx
  cases hx⟩
/-- a method's start: its locals -/
def am_en : List AV → Nat → List AV
  | [], n => List.replicate n aU
  | v :: vs, n => if v.1 = 2 then v :: aU :: am_en vs (n - 2) else v :: am_en vs (n - 1)
theorem am_en_args {G : am_G} : ∀ (vs : List AV) (n i : Nat) (j : Nat) (v : AV), vs.all (fun v => v.1 == 0 || v.1 == 1 || v.1 == 2) = true → (am_en vs n)[j]? = some v → v.1 ≠ 3 → (i + j, am_cv G v) ∈ lv_args i (vs.map (am_cv G))
  | [], n, i, j, v, _, hj, h3 => by
    rw [am_en] at hj
    obtain ⟨h1, h2⟩ := List.getElem?_eq_some_iff.mp hj
    rw [List.getElem_replicate] at h2
    rw [← h2] at h3
    exact absurd rfl h3
  | u :: vs, n, i, j, v, ha, hj, h3 => by
    rw [List.all_cons, Bool.and_eq_true] at ha
    have hcat : (am_cv G u).category = if u.1 = 2 then 2 else 1 := by
      have h3 := ha.1
      obtain ⟨t, z⟩ := u
      simp only [Bool.or_eq_true, beq_iff_eq] at h3
      rcases h3 with (rfl | rfl) | rfl
      · rfl
      · show (am_cv G (1, z)).category = _
        by_cases e : z = 0 <;> simp [am_cv, am_val, e, Value.category]
      · rfl
    rw [List.map_cons, lv_args, hcat]
    rw [am_en] at hj
    by_cases e : u.1 = 2
    · rw [if_pos e] at hj
      rw [if_pos e, if_pos rfl]
      match j, hj with
      | 0, hj => cases hj; exact List.mem_cons_self
      | 1, hj => cases hj; exact absurd rfl h3
      | j + 2, hj =>
        have := am_en_args (G := G) vs (n - 2) (i + 2) j v ha.2 hj h3
        rw [show i + (j + 2) = i + 2 + j by omega]
        exact List.mem_cons_of_mem _ this
    · rw [if_neg e] at hj
      rw [if_neg e, if_neg (by decide)]
      match j, hj with
      | 0, hj => cases hj; exact List.mem_cons_self
      | j + 1, hj =>
        have := am_en_args (G := G) vs (n - 1) (i + 1) j v ha.2 hj h3
        rw [show i + (j + 1) = i + 1 + j by omega]
        exact List.mem_cons_of_mem _ this
theorem am_sllen {G : am_G} : ∀ (argsA : List AV), argsA.all (fun v => v.1 == 0 || v.1 == 1 || v.1 == 2) = true → (lg_sl (argsA.map (am_cv G))).length = (argsA.map (fun v => if v.1 = 2 then 2 else 1)).sum
  | [], _ => rfl
  | u :: vs, ha => by
    rw [List.all_cons, Bool.and_eq_true] at ha
    have ih := am_sllen (G := G) vs ha.2
    have hcat : (am_cv G u).category = if u.1 = 2 then 2 else 1 := by
      have h3 := ha.1
      obtain ⟨t, z⟩ := u
      simp only [Bool.or_eq_true, beq_iff_eq] at h3
      rcases h3 with (rfl | rfl) | rfl
      · rfl
      · show (am_cv G (1, z)).category = _
        by_cases e : z = 0 <;> simp [am_cv, am_val, e, Value.category]
      · rfl
    rw [List.map_cons, List.map_cons, List.sum_cons, lg_sl, List.flatMap_cons, List.length_append, ← ih, hcat]
    by_cases e : u.1 = 2
    · rw [if_pos e, if_pos rfl]; rfl
    · rw [if_neg e, if_neg (by decide)]; rfl
theorem x_start {n : Nat} {argsA ls0 : List AV} (hY : am_Ok M n) (ha : argsA.all (fun v => v.1 == 0 || v.1 == 1 || v.1 == 2) = true) (hls : am_en argsA M.2.2.1 = ls0) (hlen : decide (ls0.length = M.2.2.1) = true) (hsl : decide ((argsA.map (fun v => if v.1 = 2 then 2 else 1)).sum ≤ M.2.2.1) = true)
    (k : am_X G M d 0 ls0 [] L h Q) : am_C G M d argsA L h Q := by
  intro wf
  obtain ⟨o, L', h', hQ, hw, hm, k⟩ := k wf
  refine ⟨o, L', h', hQ, hw, hm, ?_⟩
  unfold am_E
  rw [hY.ws]
  refine xa_ofW (cc := M.2.1) (maxL := M.2.2.1) (ret := M.2.2.2.1) hY.2.2.2.2.2 rfl ?_
  intro p e s m args below meth c s₁ B hml ht hv
  obtain ⟨rfl, hK, hR⟩ := hv
  have hts := atoms_spec (ws := ws_ M.1 M.2.1 M.2.2.1 M.2.2.2.1) B.pre
  have hts : ∀ w ∈ lw_all, w.before _ s = true := fun w h => hts w (List.mem_cons_of_mem _ h)
  have hown : s.vm.findClass M.1.cls = some m.cls := findClass_of_methodNamed B.named
  have hsz : G.2.1 ≤ s.heap.size := by rw [hR.1.2.2]; omega
  have hlen := of_decide_eq_true hlen
  have hcs : (lg_sl (argsA.map (am_cv G))).length ≤ M.2.2.1 := by
    have h2 := am_sllen (G := G) argsA ha
    rw [h2]
    exact of_decide_eq_true hsl
  rw [lg_entry_eq]
  have hl := lv_entry (argsA.map (am_cv G)) (n := M.2.2.1) hcs
  refine k p e _ s m _ below meth c ⟨B.exec, B.bytes, B.returns, hml, hown, hts, B.notSynchronized, ?_, hK, ⟨rfl, rfl⟩, (name_of_methodNamed B.named B.method).1, hsz⟩ s.heap [] 0 0 _ hR va_S.rf ⟨hl.1, hl.2.1, by omega, fun j v hj h3 => ?_⟩ ?_ ?_
  · rw [hY.1]
    match hq : c.exceptionTable.toList with
    | [] => rfl
    | x :: xs => exact (ht x (by rw [hq]; exact List.mem_cons_self)).elim
  · rw [← hls] at hj
    have := hl.2.2 _ (am_en_args (G := G) argsA M.2.2.1 0 j v ha hj h3)
    rw [Nat.zero_add] at this
    exact this
  · show ((0 : Nat) : Int) + (nx L' - nx L) = (((nx L' - nx L).toNat : Nat) : Int)
    omega
  · show ((0 : Nat) : Int) + (us L' - us L) = (((us L' - us L).toNat : Nat) : Int)
    omega
end AMCALL
