/-! THE ROW OF int[7][2][288] -/
set_option maxRecDepth 100000
section AMMULTI3B
section
variable {p : Program} {l : Launch} {e : Env} {R : Room} {s : State} {m : MethodId} {args : Array Value} {below : List Frame} {meth : Method} {c : Code} {T : State} {locs : List Loc} {cells slots : Nat}
theorem m3_multi (X : Stand p l e R s m args below meth c T locs cells slots) (hexec : p.tables.exec = Jvm.exec) {own : String} {index : Nat}
    (hown : s.vm.findClass own = some m.cls) (hclink : (Cond.classLink own index ("[" ++ (FieldType.array (.array .int)).toString)).before args s = true)
    (hover : (Cond.arrayOver (.array (.array .int))).before args s = true) (hover2 : (Cond.arrayOver (.array .int)).before args s = true) (harr : (Cond.arrayClass .int).before args s = true)
    {g : JFrame} (hg : g.method = m) (hdg : decode c.code g.pc = .ok (.multianewarray index 3, 4)) {n k q : Int32} {rest : List Value} (hstack : g.stack = .int q :: .int k :: .int n :: rest)
    (hn : ¬ n < 0) (hk : ¬ k < 0) (hq : ¬ q < 0) (hb1 : n.toNatClampNeg ≤ 1000) (hb2 : k.toNatClampNeg ≤ 1000) (hb3 : q.toNatClampNeg ≤ 1000)
    (hcells : cells + (1 + n.toNatClampNeg * (1 + k.toNatClampNeg)) ≤ R.cells) (hslots : slots + (n.toNatClampNeg + n.toNatClampNeg * (k.toNatClampNeg + k.toNatClampNeg * q.toNatClampNeg)) ≤ R.slots) :
    ∃ (vm₁ : Vm) (cA c2 c3 : ClassId), s.vm.findClass ("[" ++ (FieldType.array (.array .int)).toString) = some cA ∧ s.vm.findClass (FieldType.array (.array .int)).toString = some c2 ∧ s.vm.findClass (FieldType.array .int).toString = some c3 ∧
      Stand p l e R s m args below meth c (m3f (T.setVm vm₁) cA c2 c3 n.toNatClampNeg k.toNatClampNeg q.toNatClampNeg (defaultValue .int) n.toNatClampNeg) locs (cells + 1 + n.toNatClampNeg * (1 + k.toNatClampNeg)) (slots + n.toNatClampNeg + n.toNatClampNeg * (k.toNatClampNeg + k.toNatClampNeg * q.toNatClampNeg)) ∧
      ∀ target, Steps p.tables e below ((m3f (T.setVm vm₁) cA c2 c3 n.toNatClampNeg k.toNatClampNeg q.toNatClampNeg (defaultValue .int) n.toNatClampNeg).setTop { g with pc := g.pc + 4, stack := .ref T.heap.size :: rest }) target →
        Steps p.tables e below (T.setTop g) target := by
  subst hg
  have hpl : e.platform.magicAccessors = ({} : Platform).magicAccessors := by rw [X.admits.platform]
  obtain ⟨c2, cA, kA, hcomp, hkA, hkindA, hnameA⟩ := Cond.arrayOver_specA hover
  obtain ⟨c3, c2', k2, hcomp3, hk2, hkind2, hname2⟩ := Cond.arrayOver_specA hover2
  have e2 : c2' = c2 := Option.some.inj (hname2.symm.trans hcomp)
  subst e2
  obtain ⟨c3', k3, cc, hcomp', hk3, hkind3⟩ := Cond.arrayClass_spec harr
  have e3 : c3' = c3 := Option.some.inj (hcomp'.symm.trans hcomp3)
  subst e3
  obtain ⟨c0, hfc0, hcl⟩ := Cond.classLink_spec hown hclink e.platform hpl
  cases hnameA.symm.trans hfc0
  obtain ⟨hg₁, hwarm₁, hready₁⟩ := State.classEntry (e := e) X.warmed hcl
  generalize T.vm.noted g.method.cls index (.cls cA) = vm₁ at hg₁ hwarm₁ hready₁
  have hal : s.vm.Alike vm₁ := hwarm₁.alike
  obtain ⟨kA₁, hkA₁, heA⟩ := hal.2.2 _ _ hkA
  obtain ⟨k2₁, hk2₁, he2⟩ := hal.2.2 _ _ hk2
  obtain ⟨k3₁, hk3₁, he3⟩ := hal.2.2 _ _ hk3
  have hkindA₁ : kA₁.kind = .array c2' (.array (.array .int)) := by rw [heA]; exact hkindA
  have hkind2₁ : k2₁.kind = .array c3' (.array .int) := by rw [he2]; exact hkind2
  have hkind3₁ : k3₁.kind = .array cc .int := by rw [he3]; exact hkind3
  have X₁ := X.noted hwarm₁
  obtain ⟨hr1, hr2⟩ := X.roomAbove hcells hslots
  refine ⟨vm₁, cA, c2', c3', hnameA, hcomp, hcomp3, m3_filled X₁ cA c2' c3' _ _ _ _ _, fun target hrest => ?_⟩
  have hl1 : ¬ n.toNatClampNeg > e.platform.arrayLengthLimit := by rw [Launch.admits_arrayLengthLimit X.admits]; omega
  have hl2 : ¬ k.toNatClampNeg > e.platform.arrayLengthLimit := by rw [Launch.admits_arrayLengthLimit X.admits]; omega
  have hl3 : ¬ q.toNatClampNeg > e.platform.arrayLengthLimit := by rw [Launch.admits_arrayLengthLimit X.admits]; omega
  have hh1 : ¬ n.toNatClampNeg * componentBytes (.array (.array .int)) > e.platform.maxHeapBytes := by
    rw [Launch.admits_maxHeapBytes X.admits]; show ¬ n.toNatClampNeg * 4 > 536870912; omega
  have hh2 : ¬ k.toNatClampNeg * componentBytes (.array .int) > e.platform.maxHeapBytes := by
    rw [Launch.admits_maxHeapBytes X.admits]; show ¬ k.toNatClampNeg * 4 > 536870912; omega
  have hh3 : ¬ q.toNatClampNeg * componentBytes .int > e.platform.maxHeapBytes := by
    rw [Launch.admits_maxHeapBytes X.admits]; show ¬ q.toNatClampNeg * 4 > 536870912; omega
  jvm_step X.here [hexec, hdg]
  simp only [multianewarray.sem, wp_bind', W.resolveClassAt_links (State.method?_setTop g X.here.top) hg₁]
  rw [W.popN, if_neg (by decide)]
  refine ⟨g, State.topJava?_setTop' (s := T.setVm vm₁) g X.here.top, [.int n, .int k, .int q], rest, rfl, hstack, ?_⟩
  simp only [List.mapM_cons, List.mapM_nil, wp_bind', wp_pure']
  refine wp_make3 (k := kA₁) (k2 := k2₁) (k3 := k3₁) (c2 := c2') (c3 := c3') (cc := cc) (t0 := .array (.array .int)) (t1 := .array .int) (type := .int) hkA₁ hkindA₁ rfl hk2₁ hkind2₁ rfl hk3₁ hkind3₁ hn hk hq hl1 hh1 hl2 hh2 hl3 hh3 rfl rfl (by show T.heap.size + 1 + _ ≤ _; omega) (by show T.slotsUsed + _ + _ ≤ _; omega) (fun d' acts' => ?_)
  have XF := m3_filled X₁ cA c2' c3' n.toNatClampNeg k.toNatClampNeg q.toNatClampNeg (defaultValue .int) n.toNatClampNeg
  have eS : ((T.setTop g).setVm vm₁).setTop { g with stack := rest } = (T.setVm vm₁).setTop { g with stack := rest } := by
    show ((T.setVm vm₁).setTop g).setTop _ = _
    rw [State.setTop_setTop]
  rw [eS, m3f_setTop]
  simp only [wp_bind', W.mark, W.pushRef, State.topJava?_setTop' _ XF.here.top, Option.some.injEq, exists_eq_left', State.setTop_setTop, State.heap_setTop]
  intro acts
  simp [jvm, XF.here.top]
  exact hrest
end
variable {G : am_G} {M Y : am_M} {d pc : Nat} {ls st rest : List AV} {L : am_L} {h : am_H} {Q : am_O → am_L → am_H → Prop}
/-- int[7][2][288], on top of the layout -/
def am_m3 (L : am_L) : am_L := (fun a => if a = nx L then 111 else if nx L < a ∧ a < nx L + 22 then (if (a - nx L - 1) % 3 = 0 then 110 else 100) else kd L a, fun a => if a = nx L then 7 else if nx L < a ∧ a < nx L + 22 then (if (a - nx L - 1) % 3 = 0 then 2 else 288) else ln L a,
  fun b i => if b = nx L ∧ 0 ≤ i ∧ i < 7 then nx L + 1 + 3 * i else if nx L < b ∧ b < nx L + 22 ∧ (b - nx L - 1) % 3 = 0 ∧ 0 ≤ i ∧ i < 2 then b + 1 + i else fF L b i, nx L + 22, us L + 4053)
theorem kd_m3 (L : am_L) (a : Int) : kd (am_m3 L) a = if a = nx L then 111 else if nx L < a ∧ a < nx L + 22 then (if (a - nx L - 1) % 3 = 0 then 110 else 100) else kd L a := rfl
theorem ln_m3 (L : am_L) (a : Int) : ln (am_m3 L) a = if a = nx L then 7 else if nx L < a ∧ a < nx L + 22 then (if (a - nx L - 1) % 3 = 0 then 2 else 288) else ln L a := rfl
theorem fF_m3 (L : am_L) (b i : Int) : fF (am_m3 L) b i = if b = nx L ∧ 0 ≤ i ∧ i < 7 then nx L + 1 + 3 * i else if nx L < b ∧ b < nx L + 22 ∧ (b - nx L - 1) % 3 = 0 ∧ 0 ≤ i ∧ i < 2 then b + 1 + i else fF L b i := rfl
theorem nx_m3 (L : am_L) : nx (am_m3 L) = nx L + 22 := rfl
theorem us_m3 (L : am_L) : us (am_m3 L) = us L + 4053 := rfl
theorem m3_old (a : Int) (ha : a < nx L) : kd (am_m3 L) a = kd L a ∧ ln (am_m3 L) a = ln L a ∧ ∀ j, fF (am_m3 L) a j = fF L a j := by
  refine ⟨?_, ?_, fun j => ?_⟩
  · rw [kd_m3, if_neg (by omega), if_neg (by omega)]
  · rw [ln_m3, if_neg (by omega), if_neg (by omega)]
  · rw [fF_m3, if_neg (by omega), if_neg (by omega)]
theorem m3_far (w : am_Wf L h) (a : Int) (ha : nx (am_m3 L) ≤ a) : kd (am_m3 L) a = 99 ∧ ∀ j, fF (am_m3 L) a j = 0 := by
  rw [nx_m3] at ha
  refine ⟨?_, fun j => ?_⟩
  · rw [kd_m3, if_neg (by omega), if_neg (by omega), am_kd99 w (by omega)]
  · rw [fF_m3, if_neg (by omega), if_neg (by omega)]
    exact (w.2.2.1 a j (by omega)).2
theorem m3_ct (w : am_Wf L h) (a : Int) (h1 : nx L ≤ a) (h2 : a < nx (am_m3 L)) (j : Int) : am_ct (am_m3 L) h a j = if a = nx L ∧ 0 ≤ j ∧ j < 7 then nx L + 1 + 3 * j else if nx L < a ∧ (a - nx L - 1) % 3 = 0 ∧ 0 ≤ j ∧ j < 2 then a + 1 + j else 0 := by
  rw [nx_m3] at h2
  unfold am_ct
  rw [fF_m3, kd_m3, (w.2.2.1 a j h1).1, (w.2.2.1 a j h1).2]
  by_cases e : a = nx L
  · rw [if_pos e, if_pos (show am_imm 111 j = true by rfl)]
    by_cases q : a = nx L ∧ 0 ≤ j ∧ j < 7
    · rw [if_pos q, if_pos q]
    · rw [if_neg q, if_neg q, if_neg (by omega), if_neg (by omega)]
  · rw [if_neg e, if_pos (show nx L < a ∧ a < nx L + 22 from ⟨by omega, by omega⟩)]
    have e1 : ¬ (a = nx L ∧ 0 ≤ j ∧ j < 7) := fun q => e q.1
    by_cases r : (a - nx L - 1) % 3 = 0
    · rw [if_pos r, if_pos (show am_imm 110 j = true by rfl), if_neg e1, if_neg e1]
      by_cases q : 0 ≤ j ∧ j < 2
      · have e2 : nx L < a ∧ a < nx L + 22 ∧ (a - nx L - 1) % 3 = 0 ∧ 0 ≤ j ∧ j < 2 := ⟨by omega, by omega, r, q.1, q.2⟩
        have e3 : nx L < a ∧ (a - nx L - 1) % 3 = 0 ∧ 0 ≤ j ∧ j < 2 := ⟨by omega, r, q.1, q.2⟩
        rw [if_pos e2, if_pos e3]
      · have e2 : ¬ (nx L < a ∧ a < nx L + 22 ∧ (a - nx L - 1) % 3 = 0 ∧ 0 ≤ j ∧ j < 2) := fun z => q z.2.2.2
        have e3 : ¬ (nx L < a ∧ (a - nx L - 1) % 3 = 0 ∧ 0 ≤ j ∧ j < 2) := fun z => q z.2.2
        rw [if_neg e2, if_neg e3]
    · have e3 : ¬ (nx L < a ∧ (a - nx L - 1) % 3 = 0 ∧ 0 ≤ j ∧ j < 2) := fun z => r z.2.1
      rw [if_neg r, if_neg (show ¬ am_imm 100 j = true by simp [am_imm]), if_neg e1, if_neg e3]
theorem m3_rg (w : am_Wf L h) (a : Int) (h1 : nx L ≤ a) (h2 : a < nx (am_m3 L)) (j : Int) : am_rg (am_ty (kd (am_m3 L) a) j) (am_ct (am_m3 L) h a j) := by
  rw [m3_ct w a h1 h2]
  rw [nx_m3] at h2
  by_cases e : a = nx L
  · rw [kd_m3, if_pos e]
    exact trivial
  · by_cases r : (a - nx L - 1) % 3 = 0
    · rw [kd_m3, if_neg e, if_pos (show nx L < a ∧ a < nx L + 22 from ⟨by omega, by omega⟩), if_pos r]
      exact trivial
    · have e1 : ¬ (a = nx L ∧ 0 ≤ j ∧ j < 7) := fun q => e q.1
      have e3 : ¬ (nx L < a ∧ (a - nx L - 1) % 3 = 0 ∧ 0 ≤ j ∧ j < 2) := fun z => r z.2.1
      rw [if_neg e1, if_neg e3]
      exact am_rg0 _
set_option maxHeartbeats 1000000 in
theorem x_multi3 {i : Nat} (hd : decode M.2.1 pc = .ok (.multianewarray i 3, 4)) (hw : Cond.classLink M.1.cls i "[[[I" ∈ lw_all) (kk : am_X G M d (pc + 4) ls (aR (nx L) :: st) (am_m3 L) h Q) : am_X G M d pc ls (aI 288 :: aI 2 :: aI 7 :: st) L h Q := by
  refine am_wf fun wf => am_liftG (dc := 22) (ds := 4053) (fun w => w.ext (by rw [nx_m3]; omega) (by rw [us_m3]; have := w.1.2; omega) m3_old (m3_far w) (m3_rg w)) (by rw [nx_m3]; rfl) (by rw [us_m3]; rfl) (fun p e R s m args below meth c S H locs cells slots lsR Qf hR hS0 hL c1 c2 w => ?_) kk
  have hK := S.2.2.2.2.2.2.2.2.1
  have hts := S.2.2.2.2.2.1
  have h111 := (hK.2.1 111 (by decide) (by decide)).2
  have h110 := (hK.2.1 110 (by decide) (by decide)).2
  have h100 := (hK.2.1 100 (by decide) (by decide)).2
  have c7 : (7 : Int32).toNatClampNeg = 7 := by decide
  have c2' : (2 : Int32).toNatClampNeg = 2 := by decide
  have c288 : (288 : Int32).toNatClampNeg = 288 := by decide
  intro T hT X
  obtain ⟨vm₁, cA, cB, cC, hfA, hfB, hfC, X1, step⟩ := m3_multi X S.1 (own := M.1.cls) (index := i) S.2.2.2.2.1 (hts _ hw) (hK.2.2.2.2.2.2.1 _ q520) (hK.2.2.2.2.2.2.1 _ q414) (hts _ q406) (g := F0 m pc lsR ((aI 288 :: aI 2 :: aI 7 :: st).map (am_cv G))) rfl (by rw [S.2.1]; exact hd) (n := 7) (k := 2) (q := 288) (rest := st.map (am_cv G)) rfl
    (by decide) (by decide) (by decide) (by decide) (by decide) (by decide) (by rw [c7, c2']; omega) (by rw [c7, c2', c288]; omega)
  rw [c7, c2', c288] at X1 step
  have eA : cA = G.2.2.2.2.2 111 := Option.some.inj (hfA.symm.trans h111)
  have eB : cB = G.2.2.2.2.2 110 := Option.some.inj (hfB.symm.trans h110)
  have eC : cC = G.2.2.2.2.2 100 := Option.some.inj (hfC.symm.trans h100)
  subst eA
  subst eB
  subst eC
  subst hT
  obtain ⟨f1, f2, f3, f4⟩ := m3f_facts (T.setVm vm₁) (G.2.2.2.2.2 111) (G.2.2.2.2.2 110) (G.2.2.2.2.2 100) 7 2 288 (defaultValue .int) 7
  have f5 := fun j hj => m3f_mid (T.setVm vm₁) (G.2.2.2.2.2 111) (G.2.2.2.2.2 110) (G.2.2.2.2.2 100) 7 2 288 (defaultValue .int) 7 j hj
  have f7 := fun j l hj hl => m3f_in (T.setVm vm₁) (G.2.2.2.2.2 111) (G.2.2.2.2.2 110) (G.2.2.2.2.2 100) 7 2 288 (defaultValue .int) 7 j l hj hl
  have f6 := fun (a : Nat) (ha : a < (T.setVm vm₁).heap.size) => m3f_old (T.setVm vm₁) (G.2.2.2.2.2 111) (G.2.2.2.2.2 110) (G.2.2.2.2.2 100) 7 2 288 (defaultValue .int) ha 7
  generalize m3f (T.setVm vm₁) (G.2.2.2.2.2 111) (G.2.2.2.2.2 110) (G.2.2.2.2.2 100) 7 2 288 (defaultValue .int) 7 = U at f1 f2 f3 f4 f5 f6 f7 X1 step
  have hsz : (T.setVm vm₁).heap.size = T.heap.size := rfl
  rw [hsz] at f1 f2 f5 f7
  have hho : ∀ q, q < T.heap.size → U.heap[q]? = T.heap[q]? := fun q hq => f6 q hq
  have hnx := am_ad_nx hR
  have hadi : ∀ j : Nat, am_ad G (nx L + (j : Int)) = T.heap.size + j := fun j => by
    have h9 := hR.1
    unfold am_ad
    rw [if_neg (by omega)]
    omega
  have hR1 : am_Rel G (am_m3 L) h U.heap := by
    refine hR.ext (by rw [nx_m3]; omega) (by rw [us_m3]; have := wf.1.2; omega) m3_old (fun a h1 h2 h3 => ?_) (m3_far wf) (m3_rg wf) (by rw [f1, nx_m3]; omega) hho
    have hct := m3_ct wf a h1 h2
    rw [nx_m3] at h2
    by_cases e : a = nx L
    · subst e
      have ek : kd (am_m3 L) (nx L) = 111 := by rw [kd_m3, if_pos rfl]
      have el : ln (am_m3 L) (nx L) = 7 := by rw [ln_m3, if_pos rfl]
      refine Or.inr ⟨by rw [ek]; decide, by rw [ek]; decide, by rw [el]; decide, by rw [el]; decide, ?_⟩
      rw [ek, el, hnx]
      refine f2.trans (congrArg some ?_)
      rw [m3o_arr]
      unfold arrV
      congr 1
      congr 1
      funext j
      have hjl : j.val < 7 := j.isLt
      show (if (j.val : Nat) < 7 then Value.ref (T.heap.size + 1 + j.val * 3) else Value.null) = am_val G (am_tg (am_aty 111)) (am_ct (am_m3 L) h (nx L) ((j.val : Nat) : Int))
      rw [hct, if_pos hjl, if_pos ⟨rfl, by omega, by omega⟩]
      show _ = am_cv G (aR (nx L + 1 + 3 * (j.val : Int)))
      rw [am_cvR G (by have := wf.1.1; omega), show nx L + 1 + 3 * (j.val : Int) = nx L + ((1 + j.val * 3 : Nat) : Int) by omega, hadi, Nat.add_assoc]
    · obtain ⟨j, r, hj, hr, rfl⟩ : ∃ j r : Nat, j < 7 ∧ r < 3 ∧ a = nx L + ((1 + j * 3 + r : Nat) : Int) := ⟨((a - nx L - 1) / 3).toNat, ((a - nx L - 1) % 3).toNat, by omega, by omega, by omega⟩
      rcases Nat.eq_zero_or_pos r with e0 | e0
      · subst e0
        have ek : kd (am_m3 L) (nx L + ((1 + j * 3 + 0 : Nat) : Int)) = 110 := by rw [kd_m3, if_neg e, if_pos ⟨by omega, by omega⟩, if_pos (by omega)]
        have el : ln (am_m3 L) (nx L + ((1 + j * 3 + 0 : Nat) : Int)) = 2 := by rw [ln_m3, if_neg e, if_pos ⟨by omega, by omega⟩, if_pos (by omega)]
        refine Or.inr ⟨by rw [ek]; decide, by rw [ek]; decide, by rw [el]; decide, by rw [el]; decide, ?_⟩
        rw [ek, el, hadi, show T.heap.size + (1 + j * 3 + 0) = T.heap.size + 1 + j * (1 + 2) by omega]
        refine (f5 j hj).trans (congrArg some ?_)
        rw [outer_arr]
        unfold arrV
        congr 1
        congr 1
        funext l
        have hll : l.val < 2 := l.isLt
        show (if (l.val : Nat) < 2 then Value.ref (T.heap.size + 1 + j * 3 + 1 + l.val) else Value.null) = am_val G (am_tg (am_aty 110)) (am_ct (am_m3 L) h (nx L + ((1 + j * 3 + 0 : Nat) : Int)) ((l.val : Nat) : Int))
        rw [hct, if_pos hll, if_neg (fun q => e q.1), if_pos ⟨by omega, by omega, by omega, by omega⟩]
        show _ = am_cv G (aR (nx L + ((1 + j * 3 + 0 : Nat) : Int) + 1 + (l.val : Int)))
        rw [am_cvR G (by have := wf.1.1; omega), show nx L + ((1 + j * 3 + 0 : Nat) : Int) + 1 + (l.val : Int) = nx L + ((1 + j * 3 + 1 + l.val : Nat) : Int) by omega, hadi, show T.heap.size + (1 + j * 3 + 1 + l.val) = T.heap.size + 1 + j * 3 + 1 + l.val by omega]
      · obtain ⟨l, rfl⟩ : ∃ l, r = 1 + l := ⟨r - 1, by omega⟩
        have ek : kd (am_m3 L) (nx L + ((1 + j * 3 + (1 + l) : Nat) : Int)) = 100 := by rw [kd_m3, if_neg e, if_pos ⟨by omega, by omega⟩, if_neg (by omega)]
        have el : ln (am_m3 L) (nx L + ((1 + j * 3 + (1 + l) : Nat) : Int)) = 288 := by rw [ln_m3, if_neg e, if_pos ⟨by omega, by omega⟩, if_neg (by omega)]
        refine Or.inr ⟨by rw [ek]; decide, by rw [ek]; decide, by rw [el]; decide, by rw [el]; decide, ?_⟩
        rw [ek, el, hadi, show T.heap.size + (1 + j * 3 + (1 + l)) = T.heap.size + 1 + j * (1 + 2) + 1 + l by omega]
        refine (f7 j l hj (by omega)).trans (congrArg some ?_)
        show ({ cls := G.2.2.2.2.2 100, slots := Array.replicate 288 (.int 0), vm := .none } : Cell) = _
        rw [arrV_new]
        show arrV _ 288 _ = arrV _ 288 _
        congr 1
        funext i
        rw [hct, if_neg (fun q => e q.1), if_neg (by omega)]
        rfl
  have hS1 : va_S (am_Fr G) s.heap U.heap locs := ⟨by have := hS0.1; rw [f1]; omega, fun q hq hnq => by rw [hho q (by have := hS0.1; omega)]; exact hS0.2.1 q hq hnq, hS0.2.2⟩
  obtain ⟨t, a1, b1⟩ := w U.heap hR1 hS1 U rfl X1
  refine ⟨t, step t ?_, b1⟩
  rw [List.map_cons, am_cvR G (by have := wf.1.1; omega), hnx] at a1
  exact a1
end AMMULTI3B
