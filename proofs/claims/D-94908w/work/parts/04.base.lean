/-! THE ABSTRACT MACHINE (am_): numbers are Int, addresses are Int (0 null, below 200 what stood there before, from 200 on what the law has made, in its order), the heap is a layout L (kinds, lengths, contents that no town operation writes) and a function h of what is written. am_X: from here the method comes to an end of which Q holds; am_C: so does a call. -/
set_option maxRecDepth 100000
abbrev AV : Type := Int × Int
def aI (z : Int) : AV := (0, z)
def aR (a : Int) : AV := (1, a)
def aL (z : Int) : AV := (2, z)
def aU : AV := (3, 0)
abbrev am_L : Type := (Int → Nat) × (Int → Int) × (Int → Int → Int) × Int × Int
abbrev am_H : Type := Int → Int → Int
def kd (L : am_L) (a : Int) : Nat := L.1 a
def ln (L : am_L) (a : Int) : Int := L.2.1 a
def fF (L : am_L) (a j : Int) : Int := L.2.2.1 a j
def nx (L : am_L) : Int := L.2.2.2.1
def us (L : am_L) : Int := L.2.2.2.2
/-- a new cell of kind k, length n -/
def am_al (L : am_L) (k : Nat) (n : Int) : am_L := (fun a => if a = nx L then k else kd L a, fun a => if a = nx L then n else ln L a, fF L, nx L + 1, us L + n)
/-- a content of the layout written -/
def am_pf (L : am_L) (a j v : Int) : am_L := (kd L, ln L, fun b i => if b = a ∧ i = j then v else fF L b i, nx L, us L)
/-- a content of the heap written -/
def am_st (h : am_H) (a j v : Int) : am_H := fun b i => if b = a ∧ i = j then v else h b i
theorem kd_al (L : am_L) (k : Nat) (n a : Int) : kd (am_al L k n) a = if a = nx L then k else kd L a := rfl
theorem ln_al (L : am_L) (k : Nat) (n a : Int) : ln (am_al L k n) a = if a = nx L then n else ln L a := rfl
theorem fF_al (L : am_L) (k : Nat) (n a j : Int) : fF (am_al L k n) a j = fF L a j := rfl
theorem nx_al (L : am_L) (k : Nat) (n : Int) : nx (am_al L k n) = nx L + 1 := rfl
theorem us_al (L : am_L) (k : Nat) (n : Int) : us (am_al L k n) = us L + n := rfl
theorem kd_pf (L : am_L) (b j v a : Int) : kd (am_pf L b j v) a = kd L a := rfl
theorem ln_pf (L : am_L) (b j v a : Int) : ln (am_pf L b j v) a = ln L a := rfl
theorem fF_pf (L : am_L) (a j v b i : Int) : fF (am_pf L a j v) b i = if b = a ∧ i = j then v else fF L b i := rfl
theorem nx_pf (L : am_L) (b j v : Int) : nx (am_pf L b j v) = nx L := rfl
theorem us_pf (L : am_L) (b j v : Int) : us (am_pf L b j v) = us L := rfl
theorem am_st_at (h : am_H) (a j v b i : Int) : am_st h a j v b i = if b = a ∧ i = j then v else h b i := rfl
/-- the launch, the heap's size at the law's start, addresses of what stood there, class numbers, places of fields, array class numbers -/
abbrev am_G : Type := Launch × Nat × (Nat → Nat) × (Nat → ClassId) × (Nat → Nat → Nat) × (Nat → ClassId)
def am_ad (G : am_G) (a : Int) : Nat := if a < 200 then G.2.2.1 a.toNat else G.2.1 + (a - 200).toNat
def am_val (G : am_G) (t z : Int) : Value := if t = 0 then .int (Int32.ofInt z) else if t = 1 then (if z = 0 then .null else .ref (am_ad G z)) else .long (Int64.ofInt z)
def am_cv (G : am_G) (v : AV) : Value := am_val G v.1 v.2
theorem am_cvI (G : am_G) (z : Int) : am_cv G (aI z) = .int (Int32.ofInt z) := rfl
theorem am_cvL (G : am_G) (z : Int) : am_cv G (aL z) = .long (Int64.ofInt z) := rfl
theorem am_cvR (G : am_G) {a : Int} (h : a ≠ 0) : am_cv G (aR a) = .ref (am_ad G a) := by
  simp [am_cv, am_val, aR, h]
theorem am_cvN (G : am_G) : am_cv G (aR 0) = .null := rfl
def am_tg : FieldType → Int
  | .long => 2
  | .object _ => 1
  | .array _ => 1
  | _ => 0
def am_rg : FieldType → Int → Prop
  | .int, z => -2147483648 ≤ z ∧ z ≤ 2147483647
  | .byte, z => -128 ≤ z ∧ z ≤ 127
  | .short, z => -32768 ≤ z ∧ z ≤ 32767
  | .boolean, z => 0 ≤ z ∧ z ≤ 1
  | .char, z => 0 ≤ z ∧ z ≤ 65535
  | .long, z => -9223372036854775808 ≤ z ∧ z ≤ 9223372036854775807
  | _, _ => True
def am_T0 : u_T := fun _ => ("", "", "", false)
def am_cl : List vw_C := [(RX0, TX0, 25), (RX1, TX1, 8), (RX2, TX2, 8), (RX3, TX3, 7), (RX4, TX4, 12), (RX5, TX5, 11), (RX6, TX6, 2), (RX7, am_T0, 0), (RX8, am_T0, 0), (RX9, am_T0, 0), (RX10, am_T0, 0), (RX11, am_T0, 0), (RX12, am_T0, 0), (RX13, TX13, 75), (RX14, TX14, 8), (RX15, TX15, 4), (RX16, am_T0, 0), (RX17, TX17, 1), (RX18, TX18, 1), (RX19, TX19, 3), (RJ5, TJ5, 3), (RJ9, TJ9, 4), (RJ13, TJ13, 4)]
def am_fty (k : Nat) : Nat → FieldType := match k with
  | 0 => tyX0
  | 1 => tyX1
  | 2 => tyX2
  | 3 => tyX3
  | 4 => tyX4
  | 5 => tyX5
  | 6 => tyX6
  | 13 => tyX13
  | 14 => tyX14
  | 15 => tyX15
  | 17 => tyX17
  | 18 => tyX18
  | 19 => tyX19
  | 20 => tyJ5
  | 21 => tyJ9
  | 22 => tyJ13
  | _ => fun _ => .object ""
def am_aty (k : Nat) : FieldType := match k with
  | 100 => .int
  | 101 => .byte
  | 102 => .short
  | 103 => .boolean
  | 104 => .long
  | 110 => .array .int
  | 111 => .array (.array .int)
  | 112 => .object RJ9
  | 113 => .object RX5
  | 114 => .object RX7
  | 115 => .object RX16
  | 116 => .object "java/lang/Object"
  | 117 => .int
  | 118 => .byte
  | _ => .object ""
def am_ty (k : Nat) (j : Int) : FieldType := if k < 100 then am_fty k j.toNat else am_aty k
def am_immf (k j : Nat) : Bool := match k with
  | 0 => (TX0 j).2.2.2
  | 1 => false
  | 2 => (TX2 j).2.2.2
  | 3 => (TX3 j).2.2.2
  | 5 => (TX5 j).2.2.2
  | 6 => (TX6 j).2.2.2
  | 13 => (TX13 j).2.2.2
  | 22 => false
  | _ => true
def am_imm (k : Nat) (j : Int) : Bool := if k < 100 then am_immf k j.toNat else decide (110 ≤ k)
def am_ct (L : am_L) (h : am_H) (a j : Int) : Int := if am_imm (kd L a) j = true then fF L a j else h a j
/-- the cell of a -/
def am_ok (G : am_G) (L : am_L) (h : am_H) (a : Int) (H : Heap) : Prop :=
  (kd L a < 100 ∧ ∃ q : vw_C, am_cl[kd L a]? = some q ∧ ln L a = (q.2.2 : Int) ∧ t_OB (am_ad G a) (G.2.2.2.1 (kd L a)) q.2.2 (G.2.2.2.2.1 (kd L a)) H (fun j => am_val G (am_tg (am_fty (kd L a) j)) (am_ct L h a (j : Int)))) ∨
  (100 ≤ kd L a ∧ kd L a < 120 ∧ 0 ≤ ln L a ∧ ln L a ≤ 2147483647 ∧ H[am_ad G a]? = some (arrV (G.2.2.2.2.2 (kd L a)) (ln L a).toNat (fun j => am_val G (am_tg (am_aty (kd L a))) (am_ct L h a (j : Int)))))
def am_Rel (G : am_G) (L : am_L) (h : am_H) (H : Heap) : Prop :=
  (200 ≤ nx L ∧ 0 ≤ us L ∧ H.size = G.2.1 + (nx L - 200).toNat) ∧
  (∀ a, kd L a ≠ 99 → 0 < a ∧ a < nx L ∧ am_ok G L h a H ∧ (a < 200 → am_ad G a < G.2.1 ∧ ∀ j, am_imm (kd L a) j = true)) ∧
  (∀ a j, nx L ≤ a → h a j = 0 ∧ fF L a j = 0) ∧ (∀ a j, am_rg (am_ty (kd L a) j) (am_ct L h a j))
/-- the part of it that speaks of L and h alone -/
def am_Wf (L : am_L) (h : am_H) : Prop :=
  (200 ≤ nx L ∧ 0 ≤ us L) ∧ (∀ a, kd L a ≠ 99 → 0 < a ∧ a < nx L ∧ (a < 200 → ∀ j, am_imm (kd L a) j = true)) ∧
  (∀ a j, nx L ≤ a → h a j = 0 ∧ fF L a j = 0) ∧ (∀ a j, am_rg (am_ty (kd L a) j) (am_ct L h a j))
theorem am_Rel.wf {G : am_G} {L : am_L} {h : am_H} {H : Heap} (hR : am_Rel G L h H) : am_Wf L h := ⟨⟨hR.1.1, hR.1.2.1⟩, fun a ha => ⟨(hR.2.1 a ha).1, (hR.2.1 a ha).2.1, fun q => ((hR.2.1 a ha).2.2.2 q).2⟩, hR.2.2.1, hR.2.2.2⟩
def am_Fr (G : am_G) : Nat → Prop := fun q => G.2.1 ≤ q
/-- words that do not ride in the lists -/
def am_kw : Cond → Bool
  | .methodLinkNest .. => true
  | .castable .. => true
  | .declares .. => true
  | _ => false
/-- 0 or k: of a static field's reference that may be null -/
def am_nz (G : am_G) (k : Nat) : Int := if G.2.2.1 (100 + k) = 0 then 0 else (k : Int)
/-- the static fields that the code reads, and what they hold -/
def am_zs (G : am_G) : List (String × String × String × AV) := [("java/lang/String", "COMPACT_STRINGS", "Z", aI 1), ("java/util/ArrayList", "DEFAULTCAPACITY_EMPTY_ELEMENTDATA", "[Ljava/lang/Object;", aR 1), ("java/lang/Throwable", "UNASSIGNED_STACK", "[Ljava/lang/StackTraceElement;", aR (am_nz G 2)), ("java/lang/Throwable", "SUPPRESSED_SENTINEL", "Ljava/util/List;", aR (am_nz G 3)), ("jdk/internal/util/Preconditions", "SIOOBE_FORMATTER", "Ljava/util/function/BiFunction;", aR (am_nz G 4))]
/-- the String constants that the code loads, and where they stand -/
def am_ks : List (String × Nat × String × Nat) := [("ThreadTown$Fault", 1, "", 10), ("ThreadTown$Tokens", 11, "town", 11), ("ThreadTown$Tokens", 13, "man", 12), ("ThreadTown$Tokens", 15, "goes", 13), ("ThreadTown$Tokens", 17, "long", 14), ("ThreadTown$Tokens", 19, "errand", 15), ("ThreadTown$Tokens", 21, "pillar", 16), ("ThreadTown$Tokens", 23, "dye", 17), ("ThreadTown$Tokens", 25, "seed", 18), ("ThreadTown$Tokens", 27, "if", 19), ("ThreadTown$Tokens", 29, "then", 20), ("ThreadTown$Tokens", 31, "else", 21), ("ThreadTown$Tokens", 33, "x", 22), ("ThreadTown$Tokens", 35, "y", 23), ("ThreadTown$Tokens", 37, "minute", 24), ("ThreadTown$Tokens", 39, "left", 25), ("ThreadTown$Tokens", 41, "lot", 26), ("ThreadTown$Tokens", 43, "rank", 27)]
theorem am_AOA {t : FieldType} {u U : State} (hvm : u.vm.Alike U.vm) (h : (Cond.arrayOver (.array t)).before #[] u = true) : (Cond.arrayOver (.array t)).before #[] U = true := by
  have h1 := h
  unfold Cond.before Cond.holds at h1
  simp only [Cond.value] at h1
  cases hc : u.vm.findClass (FieldType.array t).toString with
  | none => rw [hc] at h1; simp at h1
  | some comp =>
    rw [hc, Option.bind_some] at h1
    cases hi : (u.vm.classes.findIdx? fun (x : Class) => match x.kind with | .array component _ => component == comp | _ => false) with
    | none => exact absurd ((congrArg (fun o : Option Nat => (o.bind (fun c => (u.vm.classes[c]?).map fun (k : Class) => match k.kind with | .array _ ty => decide (ty = FieldType.array t) && decide (u.vm.findClass ("[" ++ (FieldType.array t).toString) = some c) | _ => false) == some true)) hi).symm.trans h1) (by simp)
    | some c =>
      have h2 := (congrArg (fun o : Option Nat => (o.bind (fun c => (u.vm.classes[c]?).map fun (k : Class) => match k.kind with | .array _ ty => decide (ty = FieldType.array t) && decide (u.vm.findClass ("[" ++ (FieldType.array t).toString) = some c) | _ => false) == some true)) hi).symm.trans h1
      simp only [Option.bind_some] at h2
      cases hk : u.vm.classes[c]? with
      | none => rw [hk] at h2; simp at h2
      | some k =>
        rw [hk] at h2
        obtain ⟨k', hk', he⟩ := hvm.2.2 _ _ hk
        have hi' : (U.vm.classes.findIdx? fun (x : Class) => match x.kind with | .array component _ => component == comp | _ => false) = some c := by
          refine Eq.trans (va_idx_bare U.vm comp).symm ?_
          first | rw [hvm.bare_eq] | rw [← hvm.bare_eq]
          exact (va_idx_bare u.vm comp).trans hi
        have f1 : U.vm.findClass (FieldType.array t).toString = some comp := by rw [hvm.findClass]; exact hc
        have f2 : U.vm.findClass ("[" ++ (FieldType.array t).toString) = u.vm.findClass ("[" ++ (FieldType.array t).toString) := by rw [hvm.findClass]
        have hkind : k'.kind = k.kind := by rw [he]
        unfold Cond.before Cond.holds
        simp only [Cond.value]
        rw [f1, Option.bind_some]
        refine (congrArg (fun o : Option Nat => (o.bind (fun c => (U.vm.classes[c]?).map fun (k : Class) => match k.kind with | .array _ ty => decide (ty = FieldType.array t) && decide (U.vm.findClass ("[" ++ (FieldType.array t).toString) = some c) | _ => false) == some true)) hi').trans ?_
        simp only [Option.bind_some]
        rw [hk', f2]
        simp only [Option.map_some, hkind]
        exact h2
theorem am_PMA {y : MethodName} {u U : State} (hvm : u.vm.Alike U.vm) (h : (Cond.privateMethod y).before #[] u = true) : (Cond.privateMethod y).before #[] U = true := by
  have h1 : (Cond.privateMethod y).before #[] (u.setVm U.vm) = true := by
    rw [Cond.privateMethod_setVm hvm]
    exact h
  have e := Cond.onTables_vm (A := #[]) (A' := #[]) (U := u) (U' := U) U.vm (Cond.privateMethod y) rfl
  have hU : U.setVm U.vm = U := rfl
  rw [hU] at e
  rw [← e]
  exact h1
def am_ZZ (G : am_G) (U : State) : Prop := (∀ z ∈ am_zs G, va_Z z.1 z.2.1 z.2.2.1 (am_cv G z.2.2.2) (am_Fr G) U U.heap) ∧ (∀ z ∈ am_ks, vk_R z.1 z.2.1 z.2.2.1 (am_ad G (z.2.2.2 : Int)) U) ∧ (∀ t : FieldType, Cond.arrayOver (.array t) ∈ lw_tbl → (Cond.arrayOver (.array t)).before #[] U = true) ∧ ∀ y : MethodName, Cond.privateMethod y ∈ lw_tbl → (Cond.privateMethod y).before #[] U = true
def am_KK (G : am_G) (U : State) : Prop :=
  (∀ (c : Nat) (q : vw_C), am_cl[c]? = some q → u_Kn U q.1 q.2.1 q.2.2 (G.2.2.2.1 c) (G.2.2.2.2.1 c)) ∧
  (∀ k : Nat, 100 ≤ k → k < 120 → ArrOfT U (G.2.2.2.2.2 k) (am_aty k) ∧ va_RA U (G.2.2.2.2.2 k) (am_aty k)) ∧
  (∀ w ∈ lw_tbl, am_kw w = true → va_Nw w U) ∧ ((∀ C : String, Cond.arrayOver (.object C) ∈ lw_tbl → va_AO C U) ∧ am_ZZ G U)
theorem am_kw_warm {w : Cond} (hw : am_kw w = true) {s U : State} (hW : s.WarmedH U.vm) (h : va_Nw w s) : va_Nw w U := by
  cases w <;> first | exact va_Nw.warmM hW h | exact va_Nw.warmC hW h | exact va_Nw.warmD hW h | (simp [am_kw] at hw; done)
theorem am_ZZ.carry {G : am_G} {s U : State} (hA : s.vm.Alike U.vm) (hH : ∀ q : Nat, q < s.heap.size → ¬ am_Fr G q → U.heap[q]? = s.heap[q]?) (hk : ∀ z ∈ am_ks, vk_R z.1 z.2.1 z.2.2.1 (am_ad G (z.2.2.2 : Int)) s → vk_R z.1 z.2.1 z.2.2.1 (am_ad G (z.2.2.2 : Int)) U) (h : am_ZZ G s) : am_ZZ G U :=
  ⟨fun z hz => ((h.1 z hz).moved hA).kept hH, fun z hz => hk z hz (h.2.1 z hz), fun t ht => am_AOA hA (h.2.2.1 t ht), fun y hy => am_PMA hA (h.2.2.2 y hy)⟩
theorem am_KK.warm {G : am_G} {s U : State} (hW : s.WarmedH U.vm) (hH : ∀ q : Nat, q < s.heap.size → ¬ am_Fr G q → U.heap[q]? = s.heap[q]?) (h : am_KK G s) : am_KK G U :=
  ⟨fun c q hc => u_Kn_moved hW.alike (h.1 c q hc), fun k h1 h2 => ⟨arrOfT_moved hW.alike (h.2.1 k h1 h2).1, (h.2.1 k h1 h2).2.moved hW.alike⟩, fun w hw hk => am_kw_warm hk hW (h.2.2.1 w hw hk), fun C hC => (h.2.2.2.1 C hC).moved hW.alike, h.2.2.2.2.carry hW.alike hH fun z _ q => q.warm hW⟩
theorem am_KK.same {G : am_G} {s U : State} (hV : s.vm = U.vm) (hH : ∀ q : Nat, q < s.heap.size → ¬ am_Fr G q → U.heap[q]? = s.heap[q]?) (h : am_KK G s) : am_KK G U := by
  have hA : s.vm.Alike U.vm := by rw [hV]; exact Vm.Alike.refl _
  refine ⟨fun c q hc => u_Kn_moved hA (h.1 c q hc), fun k h1 h2 => ⟨arrOfT_moved hA (h.2.1 k h1 h2).1, (h.2.1 k h1 h2).2.moved hA⟩, fun w hw hk => va_Nw.same ?_ hV (h.2.2.1 w hw hk), fun C hC => (h.2.2.2.1 C hC).moved hA, h.2.2.2.2.carry hA hH fun z _ q => q.same hV.symm⟩
  cases w <;> first | rfl | (simp [am_kw] at hk; done)
/-- a method: its name, code, number of locals, answer, handlers -/
abbrev am_M : Type := MethodName × ByteArray × Nat × Option FieldType × List (Nat × Nat × Nat × Nat)
def am_word (M : am_M) : Cond := if M.2.2.2.2 = [] then Cond.code M.1 M.2.1 M.2.2.1 M.2.2.2.1 else Cond.codeWith M.1 M.2.1 M.2.2.1 M.2.2.2.1 M.2.2.2.2
def am_ws (M : am_M) : List Cond := am_word M :: lw_all
/-- what came: returned (nothing, or one value), or thrown from an address -/
abbrev am_O : Type := List AV ⊕ Int
def am_QO (G : am_G) (o : am_O) (L : am_L) (h : am_H) : Array Value → State → Outcome → State → Prop := fun _ _ oc t => (∃ vs : List AV, o = .inl vs ∧ oc = .returned (vs.head?.map (am_cv G))) ∧ am_Rel G L h t.heap
def am_XO (G : am_G) (o : am_O) (L : am_L) (h : am_H) : Addr → String → State → State → Prop := fun q E _ t => (∃ a : Int, o = .inr a ∧ q = am_ad G a ∧ kd L a = 1 ∧ E = RX1) ∧ am_Rel G L h t.heap
def am_PO (G : am_G) (args : List AV) (L : am_L) (h : am_H) : Array Value → State → Prop := fun a U => a = (args.map (am_cv G)).toArray ∧ am_KK G U ∧ am_Rel G L h U.heap
def am_room (d : Nat) (L L' : am_L) : Room := { frames := d, cells := (nx L' - nx L).toNat, slots := (us L' - us L).toNat, locals := 64 * d }
/-- the method, from L h with these arguments, comes to o with L' h' -/
def am_E (G : am_G) (M : am_M) (d : Nat) (args : List AV) (L : am_L) (h : am_H) (o : am_O) (L' : am_L) (h' : am_H) : Prop :=
  xa_Met G.1 M.1 (am_ws M) (am_room d L L') (am_PO G args L h) (am_QO G o L' h') (am_XO G o L' h') (nx L' - nx L).toNat (us L' - us L).toNat (am_Fr G)
def am_C (G : am_G) (M : am_M) (d : Nat) (args : List AV) (L : am_L) (h : am_H) (Q : am_O → am_L → am_H → Prop) : Prop :=
  am_Wf L h → ∃ (o : am_O) (L' : am_L) (h' : am_H), Q o L' h' ∧ am_Wf L' h' ∧ (nx L ≤ nx L' ∧ us L ≤ us L') ∧ am_E G M d args L h o L' h'
/-- the locals -/
def am_LV (G : am_G) (lsR : Array Slot) (nL : Nat) (ls : List AV) : Prop := lsR.size = nL ∧ lv_wf lsR ∧ ls.length ≤ nL ∧ ∀ (j : Nat) (v : AV), ls[j]? = some v → v.1 ≠ 3 → lsR[j]? = some (.val (am_cv G v))
def am_S (G : am_G) (M : am_M) (d : Nat) (p : Program) (R : Room) (s : State) (m : MethodId) (args : Array Value) (meth : Method) (c : Code) : Prop :=
  p.tables.exec = Jvm.exec ∧ c.code = M.2.1 ∧ meth.sig.returnType = M.2.2.2.1 ∧ c.maxLocals = M.2.2.1 ∧ s.vm.findClass M.1.cls = some m.cls ∧ (∀ w ∈ lw_all, w.before args s = true) ∧ meth.locks = false ∧ c.exceptionTable.toList = tableOf M.2.2.2.2 ∧ am_KK G s ∧ (R.frames = d ∧ R.locals = 64 * d) ∧ meth.name = M.1.name ∧ G.2.1 ≤ s.heap.size
def am_Y (G : am_G) (M : am_M) (d : Nat) (L : am_L) (h : am_H) (o : am_O) (L' : am_L) (h' : am_H) (ls : List AV) (K : Program → Env → Room → State → MethodId → Array Value → List Frame → Method → Code → Heap → List Loc → Nat → Nat → Array Slot → (State → Prop) → Prop) : Prop :=
  ∀ (p : Program) (e : Env) (R : Room) (s : State) (m : MethodId) (args : Array Value) (below : List Frame) (meth : Method) (c : Code), am_S G M d p R s m args meth c →
    ∀ (H : Heap) (locs : List Loc) (cells slots : Nat) (lsR : Array Slot), am_Rel G L h H → va_S (am_Fr G) s.heap H locs → am_LV G lsR M.2.2.1 ls →
      (cells : Int) + (nx L' - nx L) = (R.cells : Int) → (slots : Int) + (us L' - us L) = (R.slots : Int) →
      K p e R s m args below meth c H locs cells slots lsR (xa_MQ below (am_QO G o L' h') (am_XO G o L' h') args s R.cells R.slots (am_Fr G))
def am_X (G : am_G) (M : am_M) (d pc : Nat) (ls st : List AV) (L : am_L) (h : am_H) (Q : am_O → am_L → am_H → Prop) : Prop :=
  am_Wf L h → ∃ (o : am_O) (L' : am_L) (h' : am_H), Q o L' h' ∧ am_Wf L' h' ∧ (nx L ≤ nx L' ∧ us L ≤ us L') ∧
    am_Y G M d L h o L' h' ls (fun p e R s m args below meth c H locs cells slots lsR Qf => W p G.1 e R s m args below meth c H locs cells slots Qf (F0 m pc lsR (st.map (am_cv G))))
/-- what is well formed is so -/
theorem am_wf {G : am_G} {M : am_M} {d pc : Nat} {ls st : List AV} {L : am_L} {h : am_H} {Q : am_O → am_L → am_H → Prop} (k : am_Wf L h → am_X G M d pc ls st L h Q) : am_X G M d pc ls st L h Q := fun w => k w w
/-- a row that leaves heap and locals -/
theorem am_lift {G : am_G} {M : am_M} {d pc pc' : Nat} {ls st st' : List AV} {L : am_L} {h : am_H} {Q : am_O → am_L → am_H → Prop}
    (f : ∀ (p : Program) (e : Env) (R : Room) (s : State) (m : MethodId) (args : Array Value) (below : List Frame) (meth : Method) (c : Code), am_S G M d p R s m args meth c →
      ∀ (H : Heap) (locs : List Loc) (cells slots : Nat) (lsR : Array Slot) (Qf : State → Prop), am_Rel G L h H → am_LV G lsR M.2.2.1 ls →
        W p G.1 e R s m args below meth c H locs cells slots Qf (F0 m pc' lsR (st'.map (am_cv G))) → W p G.1 e R s m args below meth c H locs cells slots Qf (F0 m pc lsR (st.map (am_cv G))))
    (k : am_X G M d pc' ls st' L h Q) : am_X G M d pc ls st L h Q := by
  intro wf
  obtain ⟨o, L', h', hQ, hw, hm, k⟩ := k wf
  exact ⟨o, L', h', hQ, hw, hm, fun p e R s m args below meth c S H locs cells slots lsR hR hS hL e1 e2 => f p e R s m args below meth c S H locs cells slots lsR _ hR hL (k p e R s m args below meth c S H locs cells slots lsR hR hS hL e1 e2)⟩
/-- a row that writes locals -/
theorem am_liftL {G : am_G} {M : am_M} {d pc pc' : Nat} {ls ls' st st' : List AV} {L : am_L} {h : am_H} {Q : am_O → am_L → am_H → Prop}
    (f : ∀ (p : Program) (e : Env) (R : Room) (s : State) (m : MethodId) (args : Array Value) (below : List Frame) (meth : Method) (c : Code), am_S G M d p R s m args meth c →
      ∀ (H : Heap) (locs : List Loc) (cells slots : Nat) (lsR : Array Slot) (Qf : State → Prop), am_Rel G L h H → am_LV G lsR M.2.2.1 ls →
        (∀ lsR' : Array Slot, am_LV G lsR' M.2.2.1 ls' → W p G.1 e R s m args below meth c H locs cells slots Qf (F0 m pc' lsR' (st'.map (am_cv G)))) → W p G.1 e R s m args below meth c H locs cells slots Qf (F0 m pc lsR (st.map (am_cv G))))
    (k : am_X G M d pc' ls' st' L h Q) : am_X G M d pc ls st L h Q := by
  intro wf
  obtain ⟨o, L', h', hQ, hw, hm, k⟩ := k wf
  exact ⟨o, L', h', hQ, hw, hm, fun p e R s m args below meth c S H locs cells slots lsR hR hS hL e1 e2 => f p e R s m args below meth c S H locs cells slots lsR _ hR hL (fun lsR' hL' => k p e R s m args below meth c S H locs cells slots lsR' hR hS hL' e1 e2)⟩
/-- a row that writes a cell -/
theorem am_liftH {G : am_G} {M : am_M} {d pc pc' : Nat} {ls st st' : List AV} {L L1 : am_L} {h h1 : am_H} {Q : am_O → am_L → am_H → Prop} (hwf : am_Wf L h → am_Wf L1 h1) (hn : nx L1 = nx L) (hu : us L1 = us L)
    (f : ∀ (p : Program) (e : Env) (R : Room) (s : State) (m : MethodId) (args : Array Value) (below : List Frame) (meth : Method) (c : Code), am_S G M d p R s m args meth c →
      ∀ (H : Heap) (locs : List Loc) (cells slots : Nat) (lsR : Array Slot) (Qf : State → Prop), am_Rel G L h H → va_S (am_Fr G) s.heap H locs → am_LV G lsR M.2.2.1 ls →
        (∀ (H1 : Heap) (locs1 : List Loc), am_Rel G L1 h1 H1 → va_S (am_Fr G) s.heap H1 locs1 → W p G.1 e R s m args below meth c H1 locs1 cells slots Qf (F0 m pc' lsR (st'.map (am_cv G)))) → W p G.1 e R s m args below meth c H locs cells slots Qf (F0 m pc lsR (st.map (am_cv G))))
    (k : am_X G M d pc' ls st' L1 h1 Q) : am_X G M d pc ls st L h Q := by
  intro wf
  obtain ⟨o, L', h', hQ, hw, hm, k⟩ := k (hwf wf)
  refine ⟨o, L', h', hQ, hw, by rw [hn, hu] at hm; exact hm, fun p e R s m args below meth c S H locs cells slots lsR hR hS hL e1 e2 => f p e R s m args below meth c S H locs cells slots lsR _ hR hS hL (fun H1 locs1 hR1 hS1 => k p e R s m args below meth c S H1 locs1 cells slots lsR hR1 hS1 hL ?_ ?_)⟩
  · rw [hn]; exact e1
  · rw [hu]; exact e2
/-- a row that makes a cell -/
theorem am_liftA {G : am_G} {M : am_M} {d pc pc' : Nat} {ls st st' : List AV} {L : am_L} {h : am_H} {Q : am_O → am_L → am_H → Prop} {k0 : Nat} {n : Int} (hwf : am_Wf L h → am_Wf (am_al L k0 n) h) (hn0 : 0 ≤ n)
    (f : ∀ (p : Program) (e : Env) (R : Room) (s : State) (m : MethodId) (args : Array Value) (below : List Frame) (meth : Method) (c : Code), am_S G M d p R s m args meth c →
      ∀ (H : Heap) (locs : List Loc) (cells slots : Nat) (lsR : Array Slot) (Qf : State → Prop), am_Rel G L h H → va_S (am_Fr G) s.heap H locs → am_LV G lsR M.2.2.1 ls → cells + 1 ≤ R.cells → slots + n.toNat ≤ R.slots →
        (∀ (H1 : Heap), am_Rel G (am_al L k0 n) h H1 → va_S (am_Fr G) s.heap H1 locs → W p G.1 e R s m args below meth c H1 locs (cells + 1) (slots + n.toNat) Qf (F0 m pc' lsR (st'.map (am_cv G)))) → W p G.1 e R s m args below meth c H locs cells slots Qf (F0 m pc lsR (st.map (am_cv G))))
    (k : am_X G M d pc' ls st' (am_al L k0 n) h Q) : am_X G M d pc ls st L h Q := by
  intro wf
  obtain ⟨o, L', h', hQ, hw, hm, k⟩ := k (hwf wf)
  rw [nx_al, us_al] at hm
  refine ⟨o, L', h', hQ, hw, ⟨by omega, by omega⟩, fun p e R s m args below meth c S H locs cells slots lsR hR hS hL e1 e2 => f p e R s m args below meth c S H locs cells slots lsR _ hR hS hL (by omega) (by omega) (fun H1 hR1 hS1 => k p e R s m args below meth c S H1 locs (cells + 1) (slots + n.toNat) lsR hR1 hS1 hL ?_ ?_)⟩
  · rw [nx_al]; omega
  · rw [us_al]; omega
