/-! ARRAYS OF ARRAYS OF ARRAYS -/
set_option maxRecDepth 100000
section AMMULTI3
def m3o (c : ClassId) (N h0 w : Nat) : Nat → Cell
  | 0 => { cls := c, slots := Array.replicate N .null, vm := .none }
  | i + 1 => (m3o c N h0 w i).setSlot i (.ref (h0 + 1 + i * w))
def m3f (s : State) (c c2 c3 : ClassId) (N M K : Nat) (dv : Value) : Nat → State
  | 0 => s.pushCell (m3o c N s.heap.size (1 + M) 0)
  | i + 1 => (Jvm.Free.Multi.fill (m3f s c c2 c3 N M K dv i) c2 c3 M K dv M).setCell s.heap.size (m3o c N s.heap.size (1 + M) (i + 1))
theorem m3o_facts (c : ClassId) (N h0 w : Nat) : ∀ i, (m3o c N h0 w i).cls = c ∧ (m3o c N h0 w i).vm = .none ∧ (m3o c N h0 w i).slots.size = N
  | 0 => ⟨rfl, rfl, by simp [m3o]⟩
  | i + 1 => by
    obtain ⟨a, b, d⟩ := m3o_facts c N h0 w i
    exact ⟨by simp [m3o, Cell.setSlot, a], by simp [m3o, Cell.setSlot, b], by simp [m3o, Cell.setSlot, d]⟩
theorem m3o_arr (c : ClassId) (N h0 w : Nat) : ∀ i : Nat, m3o c N h0 w i = arrV c N (fun j => if j < i then .ref (h0 + 1 + j * w) else .null)
  | 0 => by
    show ({ cls := c, slots := Array.replicate N .null, vm := .none } : Cell) = _
    rw [arrV_new]
    congr 1
  | i + 1 => by
    show (m3o c N h0 w i).setSlot i (.ref (h0 + 1 + i * w)) = _
    rw [m3o_arr c N h0 w i, arrV_store]
    congr 1
    funext j
    unfold updV
    by_cases e : j = i
    · subst e
      rw [if_pos rfl, if_pos (by omega)]
    · rw [if_neg e]
      by_cases q : j < i
      · show (if j < i then Value.ref (h0 + 1 + j * w) else Value.null) = _
        rw [if_pos q, if_pos (by omega)]
      · show (if j < i then Value.ref (h0 + 1 + j * w) else Value.null) = _
        rw [if_neg q, if_neg (by omega)]
theorem m3f_facts (s : State) (c c2 c3 : ClassId) (N M K : Nat) (dv : Value) : ∀ i, (m3f s c c2 c3 N M K dv i).heap.size = s.heap.size + 1 + i * (1 + M) ∧ (m3f s c c2 c3 N M K dv i).heap[s.heap.size]? = some (m3o c N s.heap.size (1 + M) i) ∧
    (m3f s c c2 c3 N M K dv i).vm = s.vm ∧ (m3f s c c2 c3 N M K dv i).slotsUsed = s.slotsUsed + N + i * (M + M * K)
  | 0 => ⟨by simp [m3f], by simp [m3f], rfl, by simp [m3f, m3o]⟩
  | i + 1 => by
    obtain ⟨a, b, d, u⟩ := m3f_facts s c c2 c3 N M K dv i
    obtain ⟨g1, g2, g3, g4⟩ := Jvm.Free.Multi.fill_facts (m3f s c c2 c3 N M K dv i) c2 c3 M K dv M
    have hb' : (Jvm.Free.Multi.fill (m3f s c c2 c3 N M K dv i) c2 c3 M K dv M).heap[s.heap.size]? = some (m3o c N s.heap.size (1 + M) i) := by
      rw [Jvm.Free.Multi.fill_old (m3f s c c2 c3 N M K dv i) c2 c3 M K dv (a := s.heap.size) (show (s.heap.size : Nat) < (m3f s c c2 c3 N M K dv i).heap.size by rw [a]; omega)]
      exact b
    refine ⟨?_, State.heap_setCell_self hb', by simp [m3f, g3, d], ?_⟩
    · simp only [m3f, State.setCell, Array.size_setIfInBounds, g1, a, Nat.succ_mul]
      omega
    · simp [m3f, g4, u, Nat.succ_mul]
      omega
theorem m3f_setTop (s : State) (f : JFrame) (c c2 c3 : ClassId) (N M K : Nat) (dv : Value) : ∀ i, m3f (s.setTop f) c c2 c3 N M K dv i = (m3f s c c2 c3 N M K dv i).setTop f
  | 0 => rfl
  | i + 1 => by simp only [m3f, m3f_setTop s f c c2 c3 N M K dv i, Jvm.Free.Multi.fill_setTop, State.heap_setTop, State.setCell_setTop]
theorem m3f_old (s : State) (c c2 c3 : ClassId) (N M K : Nat) (dv : Value) {a : Addr} (ha : a < s.heap.size) : ∀ i, (m3f s c c2 c3 N M K dv i).heap[a]? = s.heap[a]?
  | 0 => State.heap_pushCell_of_lt _ _ ha
  | i + 1 => by
    have f1 := (m3f_facts s c c2 c3 N M K dv i).1
    show ((Jvm.Free.Multi.fill (m3f s c c2 c3 N M K dv i) c2 c3 M K dv M).setCell s.heap.size _).heap[a]? = _
    rw [State.heap_setCell_other (Nat.ne_of_gt ha), Jvm.Free.Multi.fill_old (m3f s c c2 c3 N M K dv i) c2 c3 M K dv (a := a) (Nat.lt_of_lt_of_le ha (show s.heap.size ≤ (m3f s c c2 c3 N M K dv i).heap.size by rw [f1]; omega))]
    exact m3f_old s c c2 c3 N M K dv ha i
theorem m3f_lt {i j M l : Nat} (h : j < i) (hl : l ≤ M) : j * (1 + M) + l < i * (1 + M) := by
  have h1 : (j + 1) * (1 + M) ≤ i * (1 + M) := Nat.mul_le_mul_right _ h
  rw [Nat.succ_mul] at h1
  omega
theorem m3f_mid (s : State) (c c2 c3 : ClassId) (N M K : Nat) (dv : Value) : ∀ i j, j < i → (m3f s c c2 c3 N M K dv i).heap[s.heap.size + 1 + j * (1 + M)]? = some (Jvm.Free.Multi.outerC c2 M (s.heap.size + 1 + j * (1 + M)) M)
  | 0, _, h => absurd h (Nat.not_lt_zero _)
  | i + 1, j, h => by
    have f1 := (m3f_facts s c c2 c3 N M K dv i).1
    show ((Jvm.Free.Multi.fill (m3f s c c2 c3 N M K dv i) c2 c3 M K dv M).setCell s.heap.size _).heap[s.heap.size + 1 + j * (1 + M)]? = _
    rw [State.heap_setCell_other (show s.heap.size ≠ s.heap.size + 1 + j * (1 + M) by omega)]
    rcases Nat.lt_or_ge j i with hj | hj
    · have := m3f_lt (l := 0) (M := M) hj (by omega)
      rw [Jvm.Free.Multi.fill_old (m3f s c c2 c3 N M K dv i) c2 c3 M K dv (a := s.heap.size + 1 + j * (1 + M)) (show (s.heap.size + 1 + j * (1 + M) : Nat) < (m3f s c c2 c3 N M K dv i).heap.size by rw [f1]; omega)]
      exact m3f_mid s c c2 c3 N M K dv i j hj
    · have e : j = i := by omega
      subst e
      have g2 := (Jvm.Free.Multi.fill_facts (m3f s c c2 c3 N M K dv j) c2 c3 M K dv M).2.1
      rw [f1] at g2
      exact g2
theorem m3f_in (s : State) (c c2 c3 : ClassId) (N M K : Nat) (dv : Value) : ∀ i j l, j < i → l < M → (m3f s c c2 c3 N M K dv i).heap[s.heap.size + 1 + j * (1 + M) + 1 + l]? = some (Jvm.Free.Multi.innerC c3 K dv)
  | 0, _, _, h, _ => absurd h (Nat.not_lt_zero _)
  | i + 1, j, l, h, hl => by
    have f1 := (m3f_facts s c c2 c3 N M K dv i).1
    show ((Jvm.Free.Multi.fill (m3f s c c2 c3 N M K dv i) c2 c3 M K dv M).setCell s.heap.size _).heap[s.heap.size + 1 + j * (1 + M) + 1 + l]? = _
    rw [State.heap_setCell_other (show s.heap.size ≠ s.heap.size + 1 + j * (1 + M) + 1 + l by omega)]
    rcases Nat.lt_or_ge j i with hj | hj
    · have := m3f_lt (l := 1 + l) (M := M) hj (by omega)
      rw [Jvm.Free.Multi.fill_old (m3f s c c2 c3 N M K dv i) c2 c3 M K dv (a := s.heap.size + 1 + j * (1 + M) + 1 + l) (show (s.heap.size + 1 + j * (1 + M) + 1 + l : Nat) < (m3f s c c2 c3 N M K dv i).heap.size by rw [f1]; omega)]
      exact m3f_in s c c2 c3 N M K dv i j l hj hl
    · have e : j = i := by omega
      subst e
      have g2 := Jvm.Free.Multi.fill_inner (m3f s c c2 c3 N M K dv j) c2 c3 M K dv M l hl
      rw [f1] at g2
      exact g2
section
variable {p : Program} {l : Launch} {e : Env} {R : Room} {s : State} {m : MethodId} {args : Array Value} {below : List Frame} {meth : Method} {c : Code} {T : State} {locs : List Loc} {cells slots : Nat}
theorem m3_filled (X : Stand p l e R s m args below meth c T locs cells slots) (cA c2 c3 : ClassId) (N M K : Nat) (dv : Value) : ∀ i, Stand p l e R s m args below meth c (m3f T cA c2 c3 N M K dv i) locs (cells + 1 + i * (1 + M)) (slots + N + i * (M + M * K))
  | 0 => by
    have h := X.pushed (m3o cA N T.heap.size (1 + M) 0)
    rw [(m3o_facts cA N T.heap.size (1 + M) 0).2.2] at h
    simpa [m3f] using h
  | i + 1 => by
    have Xi := m3_filled X cA c2 c3 N M K dv i
    obtain ⟨f1, f2, f3, f4⟩ := m3f_facts T cA c2 c3 N M K dv i
    have X1 := (Xi.filled c2 c3 M K dv M).dropFresh (fun x hx => by
      obtain ⟨j, -, rfl⟩ := List.mem_map.mp hx
      exact Xi.heapGrown)
    have hcell : (Jvm.Free.Multi.fill (m3f T cA c2 c3 N M K dv i) c2 c3 M K dv M).heap[T.heap.size]? = some (m3o cA N T.heap.size (1 + M) i) := by
      rw [Jvm.Free.Multi.fill_old (m3f T cA c2 c3 N M K dv i) c2 c3 M K dv (a := T.heap.size) (show (T.heap.size : Nat) < (m3f T cA c2 c3 N M K dv i).heap.size by rw [f1]; omega)]
      exact f2
    have X2 := (X1.stored hcell i (.ref (T.heap.size + 1 + i * (1 + M)))).dropFresh (fun x hx => by
      rw [List.mem_singleton] at hx
      subst hx
      exact X.heapGrown)
    rw [show cells + 1 + (i + 1) * (1 + M) = cells + 1 + i * (1 + M) + 1 + M by rw [Nat.succ_mul]; omega, show slots + N + (i + 1) * (M + M * K) = slots + N + i * (M + M * K) + M + M * K by rw [Nat.succ_mul]; omega]
    exact X2
end
section
variable {E : CtlPost} {e : Env} {d : Bool} {acts : List Action} {s : State}
theorem wp_make3 {c c2 c3 cc : ClassId} {k k2 k3 : Class} {t0 t1 type : FieldType} {n m q : Int32} (hk : s.vm.classes[c]? = some k) (hkind : k.kind = .array c2 t0) (href : t0.isReference = true) (hk2 : s.vm.classes[c2]? = some k2) (hkind2 : k2.kind = .array c3 t1) (href2 : t1.isReference = true)
    (hk3 : s.vm.classes[c3]? = some k3) (hkind3 : k3.kind = .array cc type) (hn : ¬ n < 0) (hm : ¬ m < 0) (hq0 : ¬ q < 0)
    (hl1 : ¬ n.toNatClampNeg > e.platform.arrayLengthLimit) (hh1 : ¬ n.toNatClampNeg * componentBytes t0 > e.platform.maxHeapBytes)
    (hl2 : ¬ m.toNatClampNeg > e.platform.arrayLengthLimit) (hh2 : ¬ m.toNatClampNeg * componentBytes t1 > e.platform.maxHeapBytes)
    (hl3 : ¬ q.toNatClampNeg > e.platform.arrayLengthLimit) (hh3 : ¬ q.toNatClampNeg * componentBytes type > e.platform.maxHeapBytes)
    (hdf : fits type (defaultValue type) = true) (hdd : (defaultValue type).isDefault = true)
    (hc : s.heap.size + 1 + n.toNatClampNeg * (1 + m.toNatClampNeg) ≤ e.platform.maxCells) (hs : s.slotsUsed + n.toNatClampNeg + n.toNatClampNeg * (m.toNatClampNeg + m.toNatClampNeg * q.toNatClampNeg) ≤ e.platform.maxSlots)
    {Q : Addr → Pre} (hq : ∀ d' acts', Q s.heap.size d' acts' (m3f s c c2 c3 n.toNatClampNeg m.toNatClampNeg q.toNatClampNeg (defaultValue type) n.toNatClampNeg)) :
    wp (multianewarray.make c [n, m, q]) Q E e d acts s := by
  have hfind : ([m, q].find? (· < 0)) = none := by simp [hm, hq0]
  rw [multianewarray.make]
  simp only [wp_bind', W.ite, hn, if_false, wp_pure', W.theClass, hk, hkind, Option.some.injEq, exists_eq_left']
  refine Jvm.Free.Multi.wp_newArray hk hkind hl1 hh1 (Jvm.Free.Multi.refFits href _ (Or.inl rfl)) rfl (by omega) (by have := Nat.zero_le (n.toNatClampNeg * (m.toNatClampNeg + m.toNatClampNeg * q.toNatClampNeg)); omega) ?_
  simp only [hfind]
  rw [ite_self, wp_bind', Std.Legacy.Range.forIn_eq_forIn_range']
  have hsz : ([:n.toNatClampNeg] : Std.Legacy.Range).size = n.toNatClampNeg := by simp [Std.Legacy.Range.size]
  rw [hsz]
  show wp (forIn (List.range' 0 n.toNatClampNeg 1) PUnit.unit _) _ E e d acts _
  refine wp_forIn_inv (fun rest s' => ∃ i, i ≤ n.toNatClampNeg ∧ rest = List.range' i (n.toNatClampNeg - i) ∧ s' = m3f s c c2 c3 n.toNatClampNeg m.toNatClampNeg q.toNatClampNeg (defaultValue type) i) _ _ ⟨0, Nat.zero_le _, rfl, rfl⟩ ?_ ?_
  · rintro x rest s' d' acts' Q' ⟨i, hi, hl, rfl⟩ hnext
    have hlt : i < n.toNatClampNeg := by
      rcases Nat.lt_or_ge i n.toNatClampNeg with h | h
      · exact h
      · rw [show n.toNatClampNeg - i = 0 from by omega] at hl; simp at hl
    obtain ⟨rfl, hrest⟩ : x = i ∧ rest = List.range' (i + 1) (n.toNatClampNeg - (i + 1)) := by
      rw [show n.toNatClampNeg - i = (n.toNatClampNeg - (i + 1)) + 1 from by omega, List.range'_succ] at hl
      exact ⟨(List.cons.inj hl).1, (List.cons.inj hl).2⟩
    obtain ⟨f1, f2, f3, f4⟩ := m3f_facts s c c2 c3 n.toNatClampNeg m.toNatClampNeg q.toNatClampNeg (defaultValue type) x
    obtain ⟨o1, o2, o3⟩ := m3o_facts c n.toNatClampNeg s.heap.size (1 + m.toNatClampNeg) x
    have hmul : (x + 1) * (m.toNatClampNeg + m.toNatClampNeg * q.toNatClampNeg) ≤ n.toNatClampNeg * (m.toNatClampNeg + m.toNatClampNeg * q.toNatClampNeg) := Nat.mul_le_mul_right _ hlt
    have hmul2 : (x + 1) * (1 + m.toNatClampNeg) ≤ n.toNatClampNeg * (1 + m.toNatClampNeg) := Nat.mul_le_mul_right _ hlt
    rw [Nat.succ_mul] at hmul hmul2
    simp only [wp_bind']
    refine Jvm.Free.Multi.wp_make2 (k := k2) (kc := k3) (comp := c3) (cc := cc) (t0 := t1) (type := type) (by rw [f3]; exact hk2) hkind2 href2 (by rw [f3]; exact hk3) hkind3 hm hq0 hl2 hh2 hl3 hh3 hdf hdd (by rw [f1]; omega) (by rw [f4]; omega) (fun d9 a9 => ?_)
    have hcell : (Jvm.Free.Multi.fill (m3f s c c2 c3 n.toNatClampNeg m.toNatClampNeg q.toNatClampNeg (defaultValue type) x) c2 c3 m.toNatClampNeg q.toNatClampNeg (defaultValue type) m.toNatClampNeg).heap[s.heap.size]? = some (m3o c n.toNatClampNeg s.heap.size (1 + m.toNatClampNeg) x) := by
      rw [Jvm.Free.Multi.fill_old (m3f s c c2 c3 n.toNatClampNeg m.toNatClampNeg q.toNatClampNeg (defaultValue type) x) c2 c3 _ _ _ (a := s.heap.size) (show (s.heap.size : Nat) < (m3f s c c2 c3 n.toNatClampNeg m.toNatClampNeg q.toNatClampNeg (defaultValue type) x).heap.size by rw [f1]; omega)]
      exact f2
    have g3 := (Jvm.Free.Multi.fill_facts (m3f s c c2 c3 n.toNatClampNeg m.toNatClampNeg q.toNatClampNeg (defaultValue type) x) c2 c3 m.toNatClampNeg q.toNatClampNeg (defaultValue type) m.toNatClampNeg).2.2.1
    simp only [wp_bind', W.writeLoc, wp_pure']
    refine ⟨m3o c n.toNatClampNeg s.heap.size (1 + m.toNatClampNeg) x, hcell, by rw [o2]; simp, by rw [o3]; exact hlt, ?_, hnext _ _ _ ⟨x + 1, hlt, hrest, ?_⟩⟩
    · rw [o1, o2]
      simp [State.fitsSlot, State.slotType?, g3, f3, hk, hkind, Jvm.Free.Multi.refFits href _ (Or.inr ⟨_, rfl⟩)]
    · rw [f1]; rfl
  · rintro s' d' acts' ⟨i, hi, hl, rfl⟩
    have hiN : i = n.toNatClampNeg := by
      rcases Nat.lt_or_ge i n.toNatClampNeg with h | h
      · rw [show n.toNatClampNeg - i = (n.toNatClampNeg - (i + 1)) + 1 from by omega, List.range'_succ] at hl; cases hl
      · omega
    subst hiN
    simp only [wp_pure']
    exact hq _ _
end
end AMMULTI3
