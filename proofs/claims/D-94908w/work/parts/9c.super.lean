/-! SUPER'S METHOD; a private method of a superclass -/
set_option maxRecDepth 100000
section XSUA
variable {p : Program} {l : Launch} {e : Env} {R : Room} {s : State} {m : MethodId} {args : Array Value} {below : List Frame} {meth : Method} {c : Code} {T : State} {locs : List Loc} {cells slots : Nat}
theorem xa_callSU (X : Stand p l e R s m args below meth c T locs cells slots) (hexec : p.tables.exec = Jvm.exec) {own : String} {index : Nat} {y : MethodName} {bytes : ByteArray} {maxL : Nat} {ret : Option FieldType}
    (hown : s.vm.findClass own = some m.cls) (hlink : (Cond.methodLink own index y).before args s = true) (hsame : (Cond.sameMethod y.cls y.cls y.name y.desc).before args s = true) (hsup : (Cond.superclass own y.cls).before args s = true)
    (hinst : (Cond.instanceMethod y).before args s = true) (hcode : (Cond.code y bytes maxL ret).before args s = true) (hno : y.name ≠ "<init>")
    {W9 : Nat} {Pre : Pt → Array Value → Prop} {Post : Pt → Array Value → Option Value → Pt → Prop} {PostX : Pt → Array Value → Addr → Pt → Prop} (hK : xa_Back l R p e below s args y 3 W9 Pre Post PostX)
    {b : Addr} {cellB : Cell} {kB : Class} (hcell : T.heap[b]? = some cellB) (hobj : cellB.vm.isStatics = false) (hkB : s.vm.classes[cellB.cls]? = some kB)
    {g : JFrame} (hg : g.method = m) (hsize : g.locals.size = c.maxLocals) {argsL rest : List Value} (hlen : ∀ sig, parseMethodDescriptor y.desc = some sig → argsL.length = sig.parameters.length)
    (hstack : g.stack = argsL.reverse ++ .ref b :: rest) (hW : 2 * g.monitorRoom + (rest.map fun v => v.category).sum ≤ W9) (hdg : decode c.code g.pc = .ok (.invokespecial index, 3))
    (hpre : ∀ vm₁, s.WarmedH vm₁ → Pre ⟨T.setVm vm₁, locs, cells, slots⟩ (Value.ref b :: argsL).toArray) :
    (∃ (v : Option Value) (vm₁ : Vm) (B : Pt), s.WarmedH vm₁ ∧ Stand p l e R s m args below meth c B.U B.locs B.cells B.slots ∧ Post ⟨T.setVm vm₁, locs, cells, slots⟩ (Value.ref b :: argsL).toArray v B ∧
      ∀ target, Steps p.tables e below (B.U.setTop { g with pc := g.pc + 3, stack := v.toList ++ rest }) target → Steps p.tables e below (T.setTop g) target) ∨
    (∃ (q : Addr) (vm₁ : Vm) (B : Pt), s.WarmedH vm₁ ∧ Stand p l e R s m args below meth c B.U B.locs B.cells B.slots ∧ PostX ⟨T.setVm vm₁, locs, cells, slots⟩ (Value.ref b :: argsL).toArray q B ∧
      Steps p.tables e below (T.setTop g) ((B.U.setTop { g with stack := rest }).pushFrame (.throwing q))) := by
  obtain ⟨mk, methM, hnamed, hmethM, hstM, habM⟩ := Cond.instanceMethod_spec hinst
  obtain ⟨methM', cM, hmethM', -, -, -, -, -, -, hsigM⟩ := Cond.code_spec hnamed hcode
  cases hmethM.symm.trans hmethM'
  obtain ⟨ps, dk, kp, hps, hdk, hkp, hsuper, -, -, hnid⟩ := Cond.superclass_spec hown hsup
  have hn : s.methodNamed? ⟨y.cls, y.name, y.desc⟩ = some mk := hnamed
  have hpm : ps = mk.cls := Option.some.inj (hps.symm.trans (findClass_of_methodNamed hnamed))
  have hsub : s.vm.isSubclass ps mk.cls = true := by rw [hpm]; simp [Vm.isSubclass, Vm.isSubclassAux]
  obtain ⟨vm₁, X₁, hstep₁⟩ := X.invokespecialUp hexec hown hlink hsame hn hmethM hstM habM hno hdk hnid hps hsuper hsub (a := b) (cell := cellB) hcell
    (fun z h => by rw [h] at hobj; cases hobj) hkB (g := g) hg (argsL := argsL) (rest := rest) (hlen _ hsigM) hstack hdg
  rcases hK m meth c ⟨T.setVm vm₁, locs, cells, slots⟩ { g with stack := rest } (.invokespecial index) mk (Value.ref b :: argsL).toArray X₁ hg hsize hdg hW (X₁.named hnamed) (hpre vm₁ X₁.warmed) with ⟨v, B, X', hpost, hsteps⟩ | ⟨q, B, X', hpost, hsteps⟩
  · exact Or.inl ⟨v, vm₁, B, X₁.warmed, X', hpost, fun target h => hstep₁ _ (by rw [doInvoke_state]; exact hsteps.trans h)⟩
  · exact Or.inr ⟨q, vm₁, B, X₁.warmed, X', hpost, hstep₁ _ (by rw [doInvoke_state]; exact hsteps)⟩
end XSUA
section XSUB
variable {p : Program} {l : Launch} {e : Env} {R : Room} {s : State} {m : MethodId} {args : Array Value} {below : List Frame} {meth : Method} {c : Code} {H : Heap} {locs : List Loc} {cells slots : Nat}
theorem xa_runSU {y : MethodName} {bytes cc : ByteArray} {maxL nL mc ms n index : Nat} {ret : Option FieldType} {ws : List Cond} {rm : Room} {Pc : Array Value → State → Prop} {Qc : Array Value → State → Outcome → State → Prop} {XC : Addr → String → State → State → Prop} {free : Addr → Prop} {Ts : List Cond} {own C : String} {cC : ClassId} {b : Addr} {As rest : List Value} {g : JFrame}
    (hat : ClassAt s C cC) (S : CallFix p m c cc nL s args Ts own) (hM : xa_Met l y ws rm Pc Qc XC mc ms free) (cw : va_CS R s args own index y bytes maxL ret ws rm mc ms n) (hp : PreV s H C b Pc As)
    (hg : g.method = m) (hn : As.length = n) (hsize : g.locals.size = nL) (hstack : g.stack = As.reverse ++ .ref b :: rest) (hW : 2 * g.monitorRoom + (rest.map fun v => v.category).sum ≤ 8) (hdg : decode cc g.pc = .ok (.invokespecial index, 3)) (hf : cells + mc ≤ R.cells ∧ slots + ms ≤ R.slots) :
    xa_Run p l e R s m args below meth c H locs cells slots mc ms g rest (Qc (Value.ref b :: As).toArray) XC free := by
  obtain ⟨⟨hrc, hrs, hfr, hlo, hws, hcw⟩, hl1, hl2, hl3, hl4, hini, hcode, hno, hlen⟩ := cw
  have hK : xa_Back l R p e below s args y 3 8 (PreOf R mc ms Pc) (PostOf Qc mc ms free) (xa_Post XC mc ms free) := xa_back (bytes := bytes) (maxL := maxL) (ret := ret) hM hp.1 hrc hrs hfr hlo hws hcw (fun a' U hW => word_at hW (Or.inl (by first | rfl | simp [Cond.onTables, Cond.keeps, Cond.steady])) hini)
  obtain ⟨hx, hb, hml, ho, -⟩ := S
  obtain ⟨-, ⟨cellB, hcB, hoB, hclB⟩, hPc⟩ := hp
  obtain ⟨hfc, kB, hkB, -⟩ := hat
  cases hfc.symm.trans hclB
  intro T hT X
  rcases xa_callSU X hx (bytes := bytes) (maxL := maxL) (ret := ret) ho hl1 hl2 hl3 hl4 hcode hno hK (by rw [hT]; exact hcB) hoB hkB hg (hsize.trans hml.symm) (argsL := As) (rest := rest) (fun sig h => hn.trans (hlen sig h)) hstack hW (by rw [hb]; exact hdg)
    (fun vm₁ hW₁ => ⟨hf.1, hf.2, hPc (T.setVm vm₁) hT hW₁⟩) with ⟨v, vm₁, ⟨U', l2, c2, s2⟩, hW₁, X', ⟨g', mk, t, L, e1, e2, hq, h1, hL, h2, h3⟩, st⟩ | ⟨q, vm₁, ⟨U', l2, c2, s2⟩, hW₁, X', ⟨g', mk, t, L, E, ce, e1, e2, hq, hce, hcv, hcl, h1, hL, h2, h3⟩, st⟩
  · dsimp only [Pt.U, Pt.locs, Pt.cells, Pt.slots] at X' e1 e2 h1 h2 h3 st
    subst h1; subst h2; subst h3
    exact Or.inl ⟨v, (T.setVm vm₁).calling g' mk (Value.ref b :: As).toArray, t, U', L, hT, X', hL, e1, e2, hq, st⟩
  · dsimp only [Pt.U, Pt.locs, Pt.cells, Pt.slots] at X' e1 e2 h1 h2 h3 st hcl
    subst h1; subst h2; subst h3
    exact Or.inr ⟨q, (T.setVm vm₁).calling g' mk (Value.ref b :: As).toArray, t, U', L, E, ce, hT, X', hL, e1, e2, hq, hce, hcv, xa_cls hW₁ hcl, st⟩
end XSUB
/-- a private method is selected whatever class the object has -/
theorem selP {C : String} {y z : MethodName} {args : Array Value} {s : State} (hsel : (Cond.selects C z z).before args s = true) (hz : z.cls = y.cls) (hpriv : (Cond.privateMethod y).before #[] s = true) (hinst : (Cond.instanceMethod y).before args s = true) (hy : y.cls ≠ "java/lang/invoke/MethodHandle" ∧ y.cls ≠ "java/lang/invoke/VarHandle") : (Cond.selects C y y).before args s = true := by
  obtain ⟨c, r, m, hc, -, hm, -, km, hkm, hni⟩ := Cond.selects_spec hsel
  obtain ⟨mk, methM, hnamed, hmethM, -, -⟩ := Cond.instanceMethod_spec hinst
  have hfound : s.methodFound? y.cls y.name y.desc = some mk := State.methodFound?_of_named hnamed hy
  have hcl : m.cls = mk.cls := by
    have a := findClass_of_methodNamed hnamed
    have b := findClass_of_methodNamed hm
    rw [hz] at b
    exact Option.some.inj (b.symm.trans a)
  rw [hcl] at hkm
  have hs : selectMethod {} s.vm c mk = .method mk := selectMethod_private hmethM (Cond.privateMethod_at hpriv mk methM hnamed hmethM)
  simp only [Cond.before, Cond.holds, Cond.value, hc, hfound, hnamed, hs, hkm]
  simp; exact hni
section AMSUP
variable {G : am_G} {M Y : am_M} {d pc : Nat} {ls st rest As : List AV} {L : am_L} {h : am_H} {Q : am_O → am_L → am_H → Prop}
theorem x_callSU {i k N n : Nat} {b : Int} {T : u_T} (hd : decode M.2.1 pc = .ok (.invokespecial i, 3)) (hM : M.2.2.2.2 = []) (hY : am_Ok Y n) (hno : Y.1.name ≠ "<init>") (hl : Cond.methodLink M.1.cls i Y.1 ∈ lw_all) (hsm : Cond.sameMethod Y.1.cls Y.1.cls Y.1.name Y.1.desc ∈ lw_all) (hsu : Cond.superclass M.1.cls Y.1.cls ∈ lw_all) (hin : Cond.instanceMethod Y.1 ∈ lw_all) (hk : kd L b = k) (hc : am_Cls k M.1.cls T N) (hn : As.length = n) (hst : st = As.reverse ++ aR b :: rest) (hrest : am_Sm rest = true)
    (kk : am_C G Y d (aR b :: As) L h (am_K G M (d + 1) pc ls rest Q)) : am_X G M (d + 1) pc ls st L h Q := by
  subst hst
  refine am_call hM (fun p e R s m args below meth c S H locs cells slots lsR o1 L1 h1 hR hS hL hE hf => ⟨(Value.ref (am_ad G b) :: As.map (am_cv G)).toArray, ?_⟩) kk
  have hK := S.2.2.2.2.2.2.2.2.1
  have hb0 := hR.lo (a := b) (by have := hc.1; omega)
  have hE' : xa_Met G.1 Y.1 (ws_ Y.1 Y.2.1 Y.2.2.1 Y.2.2.2.1) (am_room d L L1) (am_PO G (aR b :: As) L h) (am_QO G o1 L1 h1) (am_XO G o1 L1 h1) (nx L1 - nx L).toNat (us L1 - us L).toNat (am_Fr G) := by
    rw [← hY.ws]; exact hE
  have cw := va_cwSU (R := R) (s := s) (args := args) (own := M.1.cls) (index := i) (rm := am_room d L L1) n S.2.2.2.2.2.1 (lw_app (a := ([.methodLink M.1.cls i Y.1, .sameMethod Y.1.cls Y.1.cls Y.1.name Y.1.desc, .superclass M.1.cls Y.1.cls, .instanceMethod Y.1, .initialized Y.1.cls] : List Cond)) (by
      intro w hw
      simp only [List.mem_cons, List.not_mem_nil, or_false] at hw
      rcases hw with e | e | e | e | e
      · rw [e]; exact hl
      · rw [e]; exact hsm
      · rw [e]; exact hsu
      · rw [e]; exact hin
      · rw [e]; exact hY.2.2.1) (lw_meth hY.2.1)) rfl rfl rfl ⟨hno, hY.2.2.2.1.2.2⟩ (am_hR S hY.2.2.2.2.1 L1)
  refine xa_runSU (As := As.map (am_cv G)) (b := am_ad G b) (C := M.1.cls) (hK.1 k _ hc.2.1).2 (am_fix S) hE' cw ⟨am_PO_blind, am_recv hK hR hk hc, fun U hU hW => ?_⟩ rfl (by rw [List.length_map]; exact hn) hL.1 ?_ (lv_room (am_Sm.room hrest)) hd hf
  · have := am_pre hK hS.2.1 hR (aR b :: As) U hU hW
    rw [List.map_cons, am_cvR G hb0] at this
    exact this
  · show (As.reverse ++ aR b :: rest).map (am_cv G) = _
    rw [List.map_append, List.map_reverse, List.map_cons, am_cvR G hb0]
/-- a private method of a superclass, through an object -/
theorem x_callP {i k N n : Nat} {b : Int} {C : String} {T : u_T} {z : MethodName} (hd : decode M.2.1 pc = .ok (.invokevirtual i, 3)) (hM : M.2.2.2.2 = []) (hY : am_Ok Y n) (hl : Cond.methodLink M.1.cls i Y.1 ∈ lw_all) (hpr : Cond.privateMethod Y.1 ∈ lw_tbl) (hin : Cond.instanceMethod Y.1 ∈ lw_all) (hse : Cond.selects C z z ∈ lw_all) (hz : z.cls = Y.1.cls) (hk : kd L b = k) (hc : am_Cls k C T N) (hn : As.length = n) (hst : st = As.reverse ++ aR b :: rest) (hrest : am_Sm rest = true)
    (kk : am_C G Y d (aR b :: As) L h (am_K G M (d + 1) pc ls rest Q)) : am_X G M (d + 1) pc ls st L h Q := by
  subst hst
  refine am_call hM (fun p e R s m args below meth c S H locs cells slots lsR o1 L1 h1 hR hS hL hE hf => ⟨#[], ?_⟩) kk
  have hK := S.2.2.2.2.2.2.2.2.1
  have hb0 := hR.lo (a := b) (by have := hc.1; omega)
  have hE' : xa_Met G.1 Y.1 (ws_ Y.1 Y.2.1 Y.2.2.1 Y.2.2.2.1) (am_room d L L1) (am_PO G (aR b :: As) L h) (am_QO G o1 L1 h1) (am_XO G o1 L1 h1) (nx L1 - nx L).toNat (us L1 - us L).toNat (am_Fr G) := by
    rw [← hY.ws]; exact hE
  have cb := callB_of (R := R) (own := M.1.cls) (index := i) (rm := am_room d L L1) n S.2.2.2.2.2.1 (lw_meth hY.2.1) rfl rfl rfl (S.2.2.2.2.2.1 _ hY.2.2.1) (S.2.2.2.2.2.1 _ hl) hY.2.2.2.1 (am_hR S hY.2.2.2.2.1 L1)
  have hsel : (Cond.selects C Y.1 Y.1).before args s = true := selP (S.2.2.2.2.2.1 _ hse) hz (hK.2.2.2.2.2.2.2 Y.1 hpr) (S.2.2.2.2.2.1 _ hin) ⟨hY.2.2.2.1.1, hY.2.2.2.1.2.1⟩
  refine xa_runV (As := As.map (am_cv G)) (b := am_ad G b) (C := C) (am_fix S) hE' ⟨cb, S.2.2.2.2.2.1 _ hin, hsel⟩ ⟨am_PO_blind, am_recv hK hR hk hc, fun U hU hW => ?_⟩ rfl (by rw [List.length_map]; exact hn) hL.1 ?_ (lv_room (am_Sm.room hrest)) hd hf
  · have := am_pre hK hS.2.1 hR (aR b :: As) U hU hW
    rw [List.map_cons, am_cvR G hb0] at this
    exact this
  · show (As.reverse ++ aR b :: rest).map (am_cv G) = _
    rw [List.map_append, List.map_reverse, List.map_cons, am_cvR G hb0]
/-- an inherited method that the object's class has anew -/
theorem x_callO {i k N n : Nat} {b : Int} {C owner : String} {T : u_T} {x : MethodName} (hd : decode M.2.1 pc = .ok (.invokevirtual i, 3)) (hM : M.2.2.2.2 = []) (hY : am_Ok Y n) (hl : Cond.methodLink M.1.cls i x ∈ lw_all) (hsm : Cond.sameMethod x.cls owner x.name x.desc ∈ lw_all) (hdc : Cond.instanceMethod ⟨owner, x.name, x.desc⟩ ∈ lw_all) {b0 : ByteArray} {m0 : Nat} {r0 : Option FieldType} (hc0 : Cond.code ⟨owner, x.name, x.desc⟩ b0 m0 r0 ∈ lw_all) (ho : owner ≠ "java/lang/invoke/MethodHandle" ∧ owner ≠ "java/lang/invoke/VarHandle" ∧ (parseMethodDescriptor x.desc).map (fun d => d.parameters.length) = some n) (hin : Cond.instanceMethod Y.1 ∈ lw_all) (hse : Cond.selects C x Y.1 ∈ lw_all) (hk : kd L b = k) (hc : am_Cls k C T N) (hn : As.length = n) (hst : st = As.reverse ++ aR b :: rest) (hrest : am_Sm rest = true)
    (kk : am_C G Y d (aR b :: As) L h (am_K G M (d + 1) pc ls rest Q)) : am_X G M (d + 1) pc ls st L h Q := by
  subst hst
  refine am_call hM (fun p e R s m args below meth c S H locs cells slots lsR o1 L1 h1 hR hS hL hE hf => ⟨#[], ?_⟩) kk
  have hK := S.2.2.2.2.2.2.2.2.1
  have hb0 := hR.lo (a := b) (by have := hc.1; omega)
  have hE' : xa_Met G.1 Y.1 (ws_ Y.1 Y.2.1 Y.2.2.1 Y.2.2.2.1) (am_room d L L1) (am_PO G (aR b :: As) L h) (am_QO G o1 L1 h1) (am_XO G o1 L1 h1) (nx L1 - nx L).toNat (us L1 - us L).toNat (am_Fr G) := by
    rw [← hY.ws]; exact hE
  have hT : GoodIn lw_all (va_wsO M.1.cls i C owner x Y.1 (ws_ Y.1 Y.2.1 Y.2.2.1 Y.2.2.2.1)) := by
    refine lw_app ?_ (lw_meth hY.2.1)
    intro w hw
    simp only [List.mem_cons, List.not_mem_nil, or_false] at hw
    rcases hw with e | e | e | e | e | e
    · rw [e]; exact hl
    · rw [e]; exact hsm
    · rw [e]; exact hdc
    · rw [e]; exact hse
    · rw [e]; exact hin
    · rw [e]; exact hY.2.2.1
  have cw := va_cwO (R := R) (s := s) (args := args) (rm := am_room d L L1) (mc := (nx L1 - nx L).toNat) (ms := (us L1 - us L).toNat) n S.2.2.2.2.2.1 hT rfl rfl rfl hc0 ho (am_hR S hY.2.2.2.2.1 L1)
  refine xa_runU (As := As.map (am_cv G)) (b := am_ad G b) (C := C) (am_fix S) hE' cw ⟨am_PO_blind, am_recv hK hR hk hc, fun U hU hW => ?_⟩ rfl (by rw [List.length_map]; exact hn) hL.1 ?_ (lv_room (am_Sm.room hrest)) hd hf
  · have := am_pre hK hS.2.1 hR (aR b :: As) U hU hW
    rw [List.map_cons, am_cvR G hb0] at this
    exact this
  · show (As.reverse ++ aR b :: rest).map (am_cv G) = _
    rw [List.map_append, List.map_reverse, List.map_cons, am_cvR G hb0]
/-- an array is returned -/
theorem x_aretA {a : Int} {ty : FieldType} (hd : decode M.2.1 pc = .ok (.areturn, 1)) (hr : M.2.2.2.1 = some (.array ty)) (k : Q (.inl [aR a]) L h) : am_X G M d pc ls [aR a] L h Q := fun wf => ⟨.inl [aR a], L, h, k, wf, ⟨Int.le_refl _, Int.le_refl _⟩, fun p e R s m args below meth c S H locs cells slots lsR hR hS hL e1 e2 => by
  rw [show R.cells = cells by omega, show R.slots = slots by omega]
  refine xa_ret (W.aret (v := am_cv G (aR a)) S.1 S.2.1 (by rw [S.2.2.1]; exact hr) (Or.inr ⟨ty, rfl⟩) ?_ (fun t ht hW => ⟨⟨[aR a], rfl, rfl⟩, by rw [ht]; exact hR⟩) hS.2.2 hd S.2.2.2.2.2.2.1)
  by_cases q : a = 0
  · subst q; exact Or.inl rfl
  · exact Or.inr ⟨_, am_cvR G q⟩⟩
theorem x_bret {v : Int} (hd : decode M.2.1 pc = .ok (.ireturn, 1)) (hr : M.2.2.2.1 = some .byte) (hv : -128 ≤ v ∧ v ≤ 127) (k : Q (.inl [aI v]) L h) : am_X G M d pc ls [aI v] L h Q := fun wf => ⟨.inl [aI v], L, h, k, wf, ⟨Int.le_refl _, Int.le_refl _⟩, fun p e R s m args below meth c S H locs cells slots lsR hR hS hL e1 e2 => by
  rw [show R.cells = cells by omega, show R.slots = slots by omega]
  exact xa_ret (W.zret (v := Int32.ofInt v) (ty := .byte) S.1 S.2.1 (by rw [S.2.2.1]; exact hr) (am_narrow (t := .byte) G hv ⟨by decide, by decide⟩).1 (fun t ht hW => ⟨⟨[aI v], rfl, rfl⟩, by rw [ht]; exact hR⟩) hS.2.2 hd S.2.2.2.2.2.2.1)⟩
theorem x_cret {v : Int} (hd : decode M.2.1 pc = .ok (.ireturn, 1)) (hr : M.2.2.2.1 = some .char) (hv : 0 ≤ v ∧ v ≤ 65535) (k : Q (.inl [aI v]) L h) : am_X G M d pc ls [aI v] L h Q := fun wf => ⟨.inl [aI v], L, h, k, wf, ⟨Int.le_refl _, Int.le_refl _⟩, fun p e R s m args below meth c S H locs cells slots lsR hR hS hL e1 e2 => by
  rw [show R.cells = cells by omega, show R.slots = slots by omega]
  exact xa_ret (W.zret (v := Int32.ofInt v) (ty := .char) S.1 S.2.1 (by rw [S.2.2.1]; exact hr) (am_narrow (t := .char) G hv ⟨by decide, by decide⟩).1 (fun t ht hW => ⟨⟨[aI v], rfl, rfl⟩, by rw [ht]; exact hR⟩) hS.2.2 hd S.2.2.2.2.2.2.1)⟩
end AMSUP
