/-! ROWS FOR WHAT IS MADE: static fields, String constants, comparing references, instanceof, arrays of arrays -/
set_option maxRecDepth 100000
section AMROWS3
variable {G : am_G} {M Y : am_M} {d pc : Nat} {ls st rest : List AV} {L : am_L} {h : am_H} {Q : am_O → am_L → am_H → Prop}
/-- a static field that nobody writes -/
theorem x_gets {i : Nat} {C n de : String} {v : AV} (hd : decode M.2.1 pc = .ok (.getstatic i, 3)) (hl : Cond.fieldLink M.1.cls i C n de ∈ lw_all) (hz : (C, n, de, v) ∈ am_zs G) (k : am_X G M d (pc + 3) ls (v :: st) L h Q) : am_X G M d pc ls st L h Q := by
  refine am_liftH (fun w => w) rfl rfl (fun p e R s m args below meth c S H locs cells slots lsR Qf hR hS hL w => ?_) k
  have hK := S.2.2.2.2.2.2.2.2.1
  exact va_gets S.1 S.2.1 (hK.2.2.2.2.1 _ hz) hS S.2.2.2.2.1 (S.2.2.2.2.2.1 _ hl) (fun x hx => hx) hd (w H locs hR hS)
theorem am_z1 : ("java/lang/String", "COMPACT_STRINGS", "Z", aI 1) ∈ am_zs G := by simp [am_zs]
theorem am_z2 : ("java/util/ArrayList", "DEFAULTCAPACITY_EMPTY_ELEMENTDATA", "[Ljava/lang/Object;", aR 1) ∈ am_zs G := by simp [am_zs]
theorem am_z3 : ("java/lang/Throwable", "UNASSIGNED_STACK", "[Ljava/lang/StackTraceElement;", aR (am_nz G 2)) ∈ am_zs G := by simp [am_zs]
theorem am_z4 : ("java/lang/Throwable", "SUPPRESSED_SENTINEL", "Ljava/util/List;", aR (am_nz G 3)) ∈ am_zs G := by simp [am_zs]
theorem am_z5 : ("jdk/internal/util/Preconditions", "SIOOBE_FORMATTER", "Ljava/util/function/BiFunction;", aR (am_nz G 4)) ∈ am_zs G := by simp [am_zs]
/-- a String constant -/
theorem x_ldcS {i a : Nat} {tx : String} (hd : decode M.2.1 pc = .ok (.ldc i, 2)) (hz : (M.1.cls, i, tx, a) ∈ am_ks) (ha : (a : Int) ≠ 0) (k : am_X G M d (pc + 2) ls (aR (a : Int) :: st) L h Q) : am_X G M d pc ls st L h Q := by
  refine am_lift (fun p e R s m args below meth c S H locs cells slots lsR Qf hR hL w => ?_) k
  have hK := S.2.2.2.2.2.2.2.2.1
  rw [List.map_cons, am_cvR G ha] at w
  exact va_ldcS S.1 S.2.1 S.2.2.2.2.1 (hK.2.2.2.2.2.1 _ hz) hd w
theorem am_rf (a : Int) : am_cv G (aR a) = va_rf (if a = 0 then none else some (am_ad G a)) := by
  by_cases h : a = 0
  · subst h
    rfl
  · rw [am_cvR G h, if_neg h]
    rfl
theorem am_rf_ne {H : Heap} (hR : am_Rel G L h H) {a b : Int} (ha : 200 ≤ a) (hb : b = 0 ∨ kd L b ≠ 99) (hne : b ≠ a) : (if b = 0 then none else some (am_ad G b)) ≠ (if a = 0 then none else some (am_ad G a)) := by
  rw [if_neg (by omega : ¬ a = 0)]
  by_cases e : b = 0
  · rw [if_pos e]
    exact fun q => by cases q
  · rw [if_neg e]
    exact fun q => am_ad_ne hR ha (hb.resolve_left e) hne (Option.some.inj q)
theorem x_acmp_eqY {off : Int} {tgt : Nat} {a : Int} (hd : decode M.2.1 pc = .ok (.if_acmp .eq off, 3)) (ht : (pc : Int) + off = (tgt : Int)) (k : am_X G M d tgt ls st L h Q) : am_X G M d pc ls (aR a :: aR a :: st) L h Q := by
  refine am_lift (fun p e R s m args below meth c S H locs cells slots lsR Qf hR hL w => ?_) k
  rw [List.map_cons, List.map_cons, am_rf]
  exact lv_acmp_eq S.1 S.2.1 hd ht (fun _ => w) (fun q => absurd rfl q)
theorem x_acmp_eqN {off : Int} {tgt : Nat} {a b : Int} (hd : decode M.2.1 pc = .ok (.if_acmp .eq off, 3)) (ht : (pc : Int) + off = (tgt : Int)) (hab : (200 ≤ a ∧ (b = 0 ∨ kd L b ≠ 99)) ∨ (200 ≤ b ∧ (a = 0 ∨ kd L a ≠ 99))) (hne : a ≠ b) (k : am_X G M d (pc + 3) ls st L h Q) : am_X G M d pc ls (aR b :: aR a :: st) L h Q := by
  refine am_lift (fun p e R s m args below meth c S H locs cells slots lsR Qf hR hL w => ?_) k
  rw [List.map_cons, List.map_cons, am_rf, am_rf]
  have hn : ¬ (if a = 0 then none else some (am_ad G a)) = (if b = 0 then none else some (am_ad G b)) := by
    rcases hab with ⟨q1, q2⟩ | ⟨q1, q2⟩
    · exact fun z => am_rf_ne hR q1 q2 (Ne.symm hne) z.symm
    · exact am_rf_ne hR q1 q2 hne
  exact lv_acmp_eq S.1 S.2.1 hd ht (fun q => absurd q hn) (fun _ => w)
theorem x_acmp_neY {off : Int} {tgt : Nat} {a : Int} (hd : decode M.2.1 pc = .ok (.if_acmp .ne off, 3)) (ht : (pc : Int) + off = (tgt : Int)) (k : am_X G M d (pc + 3) ls st L h Q) : am_X G M d pc ls (aR a :: aR a :: st) L h Q := by
  refine am_lift (fun p e R s m args below meth c S H locs cells slots lsR Qf hR hL w => ?_) k
  rw [List.map_cons, List.map_cons, am_rf]
  exact lv_acmp_ne S.1 S.2.1 hd ht (fun q => absurd rfl q) (fun _ => w)
theorem x_acmp_neN {off : Int} {tgt : Nat} {a b : Int} (hd : decode M.2.1 pc = .ok (.if_acmp .ne off, 3)) (ht : (pc : Int) + off = (tgt : Int)) (hab : (200 ≤ a ∧ (b = 0 ∨ kd L b ≠ 99)) ∨ (200 ≤ b ∧ (a = 0 ∨ kd L a ≠ 99))) (hne : a ≠ b) (k : am_X G M d tgt ls st L h Q) : am_X G M d pc ls (aR b :: aR a :: st) L h Q := by
  refine am_lift (fun p e R s m args below meth c S H locs cells slots lsR Qf hR hL w => ?_) k
  rw [List.map_cons, List.map_cons, am_rf, am_rf]
  have hn : ¬ (if a = 0 then none else some (am_ad G a)) = (if b = 0 then none else some (am_ad G b)) := by
    rcases hab with ⟨q1, q2⟩ | ⟨q1, q2⟩
    · exact fun z => am_rf_ne hR q1 q2 (Ne.symm hne) z.symm
    · exact am_rf_ne hR q1 q2 hne
  exact lv_acmp_ne S.1 S.2.1 hd ht (fun _ => w) (fun q => absurd q hn)
/-- instanceof the very class -/
theorem x_inst {i k N : Nat} {a : Int} {nm : String} {T0 : u_T} (hd : decode M.2.1 pc = .ok (.instanceof i, 3)) (hw : Cond.classLink M.1.cls i nm ∈ lw_all) (hk : kd L a = k) (hc : am_Cls k nm T0 N) (kk : am_X G M d (pc + 3) ls (aI 1 :: rest) L h Q) : am_X G M d pc ls (aR a :: rest) L h Q := by
  refine am_lift (fun p e R s m args below meth c S H locs cells slots lsR Qf hR hL w => ?_) kk
  rw [List.map_cons, am_cvR G (hR.lo (by have := hc.1; omega))]
  have hK := S.2.2.2.2.2.2.2.2.1
  exact va_instS S.1 S.2.1 S.2.2.2.2.1 (S.2.2.2.2.2.1 _ hw) (hK.1 k _ hc.2.1).2 (am_recv hK hR hk hc) hd w
/-- cells on top of the layout -/
theorem am_Rel.ext {L' : am_L} {H H1 : Heap} (hR : am_Rel G L h H) (hx : nx L ≤ nx L') (hu : 0 ≤ us L') (h0 : ∀ a : Int, a < nx L → kd L' a = kd L a ∧ ln L' a = ln L a ∧ ∀ j, fF L' a j = fF L a j) (h1 : ∀ a : Int, nx L ≤ a → a < nx L' → kd L' a ≠ 99 → am_ok G L' h a H1) (h2 : ∀ a : Int, nx L' ≤ a → kd L' a = 99 ∧ ∀ j, fF L' a j = 0) (h3 : ∀ a : Int, nx L ≤ a → a < nx L' → ∀ j, am_rg (am_ty (kd L' a) j) (am_ct L' h a j))
    (hz : (H1.size : Int) = H.size + (nx L' - nx L)) (ho : ∀ q, q < H.size → H1[q]? = H[q]?) : am_Rel G L' h H1 := by
  obtain ⟨⟨r1, r2, r3⟩, r4, r5, r6⟩ := id hR
  have c0 : ∀ b i : Int, b < nx L → am_ct L' h b i = am_ct L h b i := fun b i hb => by
    unfold am_ct
    rw [(h0 b hb).1, (h0 b hb).2.2]
  refine ⟨⟨by omega, hu, by omega⟩, fun b hb => ?_, fun b i hb => ⟨(r5 b i (by omega)).1, (h2 b hb).2 i⟩, fun b i => ?_⟩
  · rcases Int.lt_or_le b (nx L) with q | q
    · rw [(h0 b q).1] at hb ⊢
      obtain ⟨b1, b2, b3, b4⟩ := r4 b hb
      exact ⟨b1, by omega, b3.to (h0 b q).1 (h0 b q).2.1 (fun i => c0 b i q) (ho _ (hR.adlt hb)), b4⟩
    · rcases Int.lt_or_le b (nx L') with z | z
      · exact ⟨by omega, z, h1 b q z hb, fun y => by omega⟩
      · exact absurd (h2 b z).1 hb
  · rcases Int.lt_or_le b (nx L) with q | q
    · rw [c0 b i q, (h0 b q).1]
      exact r6 b i
    · rcases Int.lt_or_le b (nx L') with z | z
      · exact h3 b q z i
      · have e : am_ct L' h b i = 0 := by
          unfold am_ct
          rw [(h2 b z).2 i, (r5 b i q).1]
          split <;> rfl
        rw [e]
        exact am_rg0 _
theorem am_Wf.ext {L' : am_L} (hw : am_Wf L h) (hx : nx L ≤ nx L') (hu : 0 ≤ us L') (h0 : ∀ a : Int, a < nx L → kd L' a = kd L a ∧ ln L' a = ln L a ∧ ∀ j, fF L' a j = fF L a j) (h2 : ∀ a : Int, nx L' ≤ a → kd L' a = 99 ∧ ∀ j, fF L' a j = 0) (h3 : ∀ a : Int, nx L ≤ a → a < nx L' → ∀ j, am_rg (am_ty (kd L' a) j) (am_ct L' h a j)) : am_Wf L' h := by
  obtain ⟨r1, r4, r5, r6⟩ := id hw
  refine ⟨⟨by omega, hu⟩, fun b hb => ?_, fun b i hb => ⟨(r5 b i (by omega)).1, (h2 b hb).2 i⟩, fun b i => ?_⟩
  · rcases Int.lt_or_le b (nx L) with q | q
    · rw [(h0 b q).1] at hb ⊢
      obtain ⟨b1, b2, b4⟩ := r4 b hb
      exact ⟨b1, by omega, b4⟩
    · rcases Int.lt_or_le b (nx L') with z | z
      · exact ⟨by omega, z, fun y => by omega⟩
      · exact absurd (h2 b z).1 hb
  · rcases Int.lt_or_le b (nx L) with q | q
    · unfold am_ct
      rw [(h0 b q).1, (h0 b q).2.2]
      exact r6 b i
    · rcases Int.lt_or_le b (nx L') with z | z
      · exact h3 b q z i
      · have e : am_ct L' h b i = 0 := by
          unfold am_ct
          rw [(h2 b z).2 i, (r5 b i (by omega)).1]
          split <;> rfl
        rw [e]
        exact am_rg0 _
/-- a row that makes many cells -/
theorem am_liftG {L1 : am_L} {pc' dc ds : Nat} {ls st st' : List AV} (hwf : am_Wf L h → am_Wf L1 h) (hn : nx L1 = nx L + (dc : Int)) (hu : us L1 = us L + (ds : Int))
    (f : ∀ (p : Program) (e : Env) (R : Room) (s : State) (m : MethodId) (args : Array Value) (below : List Frame) (meth : Method) (c : Code), am_S G M d p R s m args meth c →
      ∀ (H : Heap) (locs : List Loc) (cells slots : Nat) (lsR : Array Slot) (Qf : State → Prop), am_Rel G L h H → va_S (am_Fr G) s.heap H locs → am_LV G lsR M.2.2.1 ls → cells + dc ≤ R.cells → slots + ds ≤ R.slots →
        (∀ (H1 : Heap), am_Rel G L1 h H1 → va_S (am_Fr G) s.heap H1 locs → W p G.1 e R s m args below meth c H1 locs (cells + dc) (slots + ds) Qf (F0 m pc' lsR (st'.map (am_cv G)))) → W p G.1 e R s m args below meth c H locs cells slots Qf (F0 m pc lsR (st.map (am_cv G))))
    (k : am_X G M d pc' ls st' L1 h Q) : am_X G M d pc ls st L h Q := by
  intro wf
  obtain ⟨o, L', h', hQ, hw, hm, k⟩ := k (hwf wf)
  rw [hn, hu] at hm
  refine ⟨o, L', h', hQ, hw, ⟨by omega, by omega⟩, fun p e R s m args below meth c S H locs cells slots lsR hR hS hL e1 e2 => f p e R s m args below meth c S H locs cells slots lsR _ hR hS hL (by omega) (by omega) (fun H1 hR1 hS1 => k p e R s m args below meth c S H1 locs (cells + dc) (slots + ds) lsR hR1 hS1 hL ?_ ?_)⟩
  · rw [hn]; omega
  · rw [hu]; omega
/-- n arrays of k ints, in an array -/
def am_m2 (L : am_L) (n k : Int) : am_L := (fun a => if a = nx L then 110 else if nx L < a ∧ a ≤ nx L + n then 100 else kd L a, fun a => if a = nx L then n else if nx L < a ∧ a ≤ nx L + n then k else ln L a, fun b i => if b = nx L ∧ 0 ≤ i ∧ i < n then nx L + 1 + i else fF L b i, nx L + 1 + n, us L + n + n * k)
theorem kd_m2 (L : am_L) (n k a : Int) : kd (am_m2 L n k) a = if a = nx L then 110 else if nx L < a ∧ a ≤ nx L + n then 100 else kd L a := rfl
theorem ln_m2 (L : am_L) (n k a : Int) : ln (am_m2 L n k) a = if a = nx L then n else if nx L < a ∧ a ≤ nx L + n then k else ln L a := rfl
theorem fF_m2 (L : am_L) (n k b i : Int) : fF (am_m2 L n k) b i = if b = nx L ∧ 0 ≤ i ∧ i < n then nx L + 1 + i else fF L b i := rfl
theorem nx_m2 (L : am_L) (n k : Int) : nx (am_m2 L n k) = nx L + 1 + n := rfl
theorem us_m2 (L : am_L) (n k : Int) : us (am_m2 L n k) = us L + n + n * k := rfl
theorem am_kd99 (w : am_Wf L h) {a : Int} (ha : nx L ≤ a) : kd L a = 99 := by
  by_cases e : kd L a = 99
  · exact e
  · have := (w.2.1 a e).2.1
    omega
theorem m2_old (n k : Int) (a : Int) (ha : a < nx L) : kd (am_m2 L n k) a = kd L a ∧ ln (am_m2 L n k) a = ln L a ∧ ∀ j, fF (am_m2 L n k) a j = fF L a j := by
  refine ⟨?_, ?_, fun j => ?_⟩
  · rw [kd_m2, if_neg (by omega), if_neg (by omega)]
  · rw [ln_m2, if_neg (by omega), if_neg (by omega)]
  · rw [fF_m2, if_neg (by omega)]
theorem m2_far (w : am_Wf L h) {n : Int} (hn : 0 ≤ n) (k : Int) (a : Int) (ha : nx (am_m2 L n k) ≤ a) : kd (am_m2 L n k) a = 99 ∧ ∀ j, fF (am_m2 L n k) a j = 0 := by
  rw [nx_m2] at ha
  refine ⟨?_, fun j => ?_⟩
  · rw [kd_m2, if_neg (by omega), if_neg (by omega), am_kd99 w (by omega)]
  · rw [fF_m2, if_neg (by omega)]
    exact (w.2.2.1 a j (by omega)).2
theorem m2_ct (w : am_Wf L h) (n k : Int) (a : Int) (h1 : nx L ≤ a) (h2 : a < nx (am_m2 L n k)) (j : Int) : am_ct (am_m2 L n k) h a j = if a = nx L ∧ 0 ≤ j ∧ j < n then nx L + 1 + j else 0 := by
  rw [nx_m2] at h2
  unfold am_ct
  rw [fF_m2, kd_m2, (w.2.2.1 a j h1).1, (w.2.2.1 a j h1).2]
  by_cases e : a = nx L
  · rw [if_pos e]
    rw [if_pos (by rfl : am_imm 110 j = true)]
  · rw [if_neg e, if_pos (show nx L < a ∧ a ≤ nx L + n from ⟨by omega, by omega⟩), if_neg (show ¬ am_imm 100 j = true by simp [am_imm]), if_neg (fun q => e q.1)]
theorem m2_rg (w : am_Wf L h) (n k : Int) (a : Int) (h1 : nx L ≤ a) (h2 : a < nx (am_m2 L n k)) (j : Int) : am_rg (am_ty (kd (am_m2 L n k) a) j) (am_ct (am_m2 L n k) h a j) := by
  rw [m2_ct w n k a h1 h2]
  rw [nx_m2] at h2
  by_cases e : a = nx L
  · rw [kd_m2, if_pos e]
    exact trivial
  · rw [if_neg (fun q => e q.1)]
    exact am_rg0 _
theorem outer_arr (c : ClassId) (N h0 : Nat) : ∀ i : Nat, Jvm.Free.Multi.outerC c N h0 i = arrV c N (fun j => if j < i then .ref (h0 + 1 + j) else .null)
  | 0 => by
    show ({ cls := c, slots := Array.replicate N .null, vm := .none } : Cell) = _
    rw [arrV_new]
    congr 1
  | i + 1 => by
    show (Jvm.Free.Multi.outerC c N h0 i).setSlot i (.ref (h0 + 1 + i)) = _
    rw [outer_arr c N h0 i, arrV_store]
    congr 1
    funext j
    unfold updV
    by_cases e : j = i
    · subst e
      rw [if_pos rfl, if_pos (by omega)]
    · rw [if_neg e]
      by_cases q : j < i
      · show (if j < i then Value.ref (h0 + 1 + j) else Value.null) = _
        rw [if_pos q, if_pos (by omega)]
      · show (if j < i then Value.ref (h0 + 1 + j) else Value.null) = _
        rw [if_neg q, if_neg (by omega)]
set_option maxHeartbeats 1000000 in
theorem x_multi2 {i : Nat} {n k : Int} (hd : decode M.2.1 pc = .ok (.multianewarray i 2, 4)) (hw : Cond.classLink M.1.cls i "[[I" ∈ lw_all) (hn : 0 ≤ n ∧ n ≤ 1000) (hk : 0 ≤ k ∧ k ≤ 10000) (kk : am_X G M d (pc + 4) ls (aR (nx L) :: st) (am_m2 L n k) h Q) : am_X G M d pc ls (aI k :: aI n :: st) L h Q := by
  have hnk : 0 ≤ n * k := Int.mul_nonneg hn.1 hk.1
  refine am_wf fun wf => am_liftG (dc := 1 + n.toNat) (ds := n.toNat + n.toNat * k.toNat) (fun w => w.ext (by rw [nx_m2]; omega) (by rw [us_m2]; have := w.1.2; omega) (m2_old n k) (m2_far w hn.1 k) (m2_rg w n k)) (by rw [nx_m2]; omega) (by rw [us_m2, Int.natCast_add, Int.natCast_mul, Int.toNat_of_nonneg hn.1, Int.toNat_of_nonneg hk.1]; omega) (fun p e R s m args below meth c S H locs cells slots lsR Qf hR hS0 hL c1 c2 w => ?_) kk
  have rn : rg32 n := ⟨by omega, by omega⟩
  have rk : rg32 k := ⟨by omega, by omega⟩
  have hK := S.2.2.2.2.2.2.2.2.1
  have hts := S.2.2.2.2.2.1
  have cn := am_clamp rn
  have ck := am_clamp rk
  have h110 := (hK.2.1 110 (by decide) (by decide)).2
  have h100 := (hK.2.1 100 (by decide) (by decide)).2
  intro T hT X
  obtain ⟨vm₁, cA, comp, hW, hfA, hfC, hO, hI, X1, step⟩ := X.multianewarray2F S.1 (own := M.1.cls) (index := i) (ty := .int) S.2.2.2.2.1 (hts _ hw) (hK.2.2.2.2.2.2.1 _ q414) (hts _ q406) (g := F0 m pc lsR ((aI k :: aI n :: st).map (am_cv G))) rfl (by rw [S.2.1]; exact hd) (n := Int32.ofInt n) (k := Int32.ofInt k) (rest := st.map (am_cv G)) rfl
    (by rw [am_0, am_lt rn am_r0]; omega) (by rw [am_0, am_lt rk am_r0]; omega) (by rw [cn]; omega) (by rw [ck]; show k.toNat * 4 ≤ _; omega) (by rw [ck]; omega) rfl rfl (by rw [cn]; omega) (by rw [cn, ck]; omega)
  rw [cn, ck] at X1 step
  have eA : cA = G.2.2.2.2.2 110 := Option.some.inj (hfA.symm.trans h110)
  have eC : comp = G.2.2.2.2.2 100 := Option.some.inj (hfC.symm.trans h100)
  subst eA
  subst eC
  subst hT
  obtain ⟨f1, f2, f3, f4⟩ := Jvm.Free.Multi.fill_facts (T.setVm vm₁) (G.2.2.2.2.2 110) (G.2.2.2.2.2 100) n.toNat k.toNat (defaultValue .int) n.toNat
  have f5 := fun j hj => Jvm.Free.Multi.fill_inner (T.setVm vm₁) (G.2.2.2.2.2 110) (G.2.2.2.2.2 100) n.toNat k.toNat (defaultValue .int) n.toNat j hj
  have f6 := fun (a : Nat) (ha : a < (T.setVm vm₁).heap.size) => Jvm.Free.Multi.fill_old (T.setVm vm₁) (G.2.2.2.2.2 110) (G.2.2.2.2.2 100) n.toNat k.toNat (defaultValue .int) ha n.toNat
  generalize Jvm.Free.Multi.fill (T.setVm vm₁) (G.2.2.2.2.2 110) (G.2.2.2.2.2 100) n.toNat k.toNat (defaultValue .int) n.toNat = U at f1 f2 f3 f4 f5 f6 X1 step
  have hsz : (T.setVm vm₁).heap.size = T.heap.size := rfl
  have hho : ∀ q, q < T.heap.size → U.heap[q]? = T.heap[q]? := fun q hq => f6 q hq
  have hnx := am_ad_nx hR
  have hadi : ∀ j : Nat, am_ad G (nx L + 1 + (j : Int)) = T.heap.size + 1 + j := fun j => by
    have h9 := hR.1
    unfold am_ad
    rw [if_neg (by omega)]
    omega
  have hR1 : am_Rel G (am_m2 L n k) h U.heap := by
    refine hR.ext (by rw [nx_m2]; omega) (by rw [us_m2]; have := wf.1.2; omega) (m2_old n k) (fun a h1 h2 h3 => ?_) (m2_far wf hn.1 k) (m2_rg wf n k) (by rw [f1, nx_m2]; show ((T.heap.size + 1 + n.toNat : Nat) : Int) = _; omega) hho
    have hct := m2_ct wf n k a h1 h2
    rw [nx_m2] at h2
    by_cases e : a = nx L
    · subst e
      have ek : kd (am_m2 L n k) (nx L) = 110 := by rw [kd_m2, if_pos rfl]
      have el : ln (am_m2 L n k) (nx L) = n := by rw [ln_m2, if_pos rfl]
      refine Or.inr ⟨by rw [ek]; decide, by rw [ek]; decide, by rw [el]; omega, by rw [el]; omega, ?_⟩
      rw [ek, el, hnx]
      refine f2.trans (congrArg some ?_)
      rw [outer_arr]
      unfold arrV
      congr 1
      congr 1
      funext j
      have hjl := j.isLt
      show (if (j.val : Nat) < n.toNat then Value.ref (T.heap.size + 1 + j.val) else Value.null) = am_val G (am_tg (am_aty 110)) (am_ct (am_m2 L n k) h (nx L) ((j.val : Nat) : Int))
      rw [hct, if_pos hjl, if_pos ⟨rfl, by omega, by omega⟩]
      show _ = am_cv G (aR (nx L + 1 + (j.val : Int)))
      rw [am_cvR G (by have := wf.1.1; omega), hadi]
    · have ek : kd (am_m2 L n k) a = 100 := by rw [kd_m2, if_neg e, if_pos (by omega)]
      have el : ln (am_m2 L n k) a = k := by rw [ln_m2, if_neg e, if_pos (by omega)]
      refine Or.inr ⟨by rw [ek]; decide, by rw [ek]; decide, by rw [el]; omega, by rw [el]; omega, ?_⟩
      obtain ⟨j, rfl⟩ : ∃ j : Nat, a = nx L + 1 + (j : Int) := ⟨(a - nx L - 1).toNat, by omega⟩
      rw [ek, el, hadi]
      refine (f5 j (by omega)).trans (congrArg some ?_)
      show ({ cls := G.2.2.2.2.2 100, slots := Array.replicate k.toNat (.int 0), vm := .none } : Cell) = _
      rw [arrV_new]
      congr 1
      funext i
      rw [hct, if_neg (fun q => e q.1)]
      rfl
  have hS1 : va_S (am_Fr G) s.heap U.heap locs := ⟨by have := hS0.1; rw [f1]; show _ ≤ T.heap.size + 1 + n.toNat; omega, fun q hq hnq => by rw [hho q (by have := hS0.1; omega)]; exact hS0.2.1 q hq hnq, hS0.2.2⟩
  obtain ⟨t, a1, b1⟩ := w U.heap hR1 hS1 U rfl (by rw [show cells + (1 + n.toNat) = cells + 1 + n.toNat by omega, show slots + (n.toNat + n.toNat * k.toNat) = slots + n.toNat + n.toNat * k.toNat by omega]; exact X1)
  refine ⟨t, step t ?_, b1⟩
  rw [List.map_cons, am_cvR G (by have := wf.1.1; omega), hnx] at a1
  exact a1
end AMROWS3
