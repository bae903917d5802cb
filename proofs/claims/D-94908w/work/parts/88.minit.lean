/-! THE TWIN: its constructor (printed by tools/gen_minit.py) -/
set_option maxRecDepth 100000
def mdTab : List (Nat × Int × Int) := [(101, 2000, 1), (101, 2000, 3), (100, 403, 5), (100, 403, 6), (100, 403, 7), (104, 403, 8), (104, 17, 9), (104, 7, 21), (100, 2, 22), (100, 2, 23), (100, 2, 24), (100, 14, 25), (100, 14, 26), (100, 14, 27), (100, 14, 28), (100, 84, 29), (100, 84, 30), (100, 2, 31), (100, 12, 32), (100, 12, 33), (100, 2, 34), (100, 49, 36), (100, 49, 37), (100, 49, 38), (100, 16, 39), (100, 16, 40), (103, 260, 42), (100, 260, 43), (100, 260, 44), (100, 260, 45), (100, 260, 46), (100, 840, 48), (100, 840, 49), (100, 64, 50), (100, 6, 52), (100, 400, 53), (100, 1290, 55), (100, 1290, 56), (100, 7, 57), (100, 38700, 59), (100, 7, 60), (100, 128, 61), (100, 6, 62), (100, 6, 63), (100, 7, 66), (100, 4032, 67), (100, 196, 68), (100, 12, 70), (100, 12, 71), (103, 12, 72), (103, 3, 73), (100, 3870, 74)]
/-- the first i arrays of the table are made, behind the object at o -/
def TabI (i : Nat) (L0 L : am_L) (o : Int) : Prop :=
  kd L o = 13 ∧ nx L = o + 1 + i ∧ us L = us L0 + ((mdTab.take i).map (fun q => q.2.1)).sum ∧ (∀ (j k : Nat) (n f : Int), j < i → mdTab[j]? = some (k, n, f) → fF L o f = o + 1 + j ∧ kd L (o + 1 + j) = k ∧ ln L (o + 1 + j) = n) ∧
  ∀ a, a < o → kd L a = kd L0 a ∧ ln L a = ln L0 a ∧ ∀ j, fF L a j = fF L0 a j
section MINIT
variable {G : am_G} {M : am_M} {L L0 : am_L} {h : am_H} {o : Int} {d pc i : Nat} {ls st : List AV} {Q : am_O → am_L → am_H → Prop}
theorem TabI.k (t : TabI i L0 L o) : kd L o = 13 := t.1
theorem TabI.ka {k : Nat} {n : Int} (t : TabI i L0 L o) : kd (am_al L k n) o = 13 := by
  rw [kd_al, if_neg (by have := t.2.1; omega)]
  exact t.1
theorem TabI.zero (hk : kd L o = 13) (hn : nx L = o + 1) : TabI 0 L L o := ⟨hk, by rw [hn]; simp, by simp, fun j k n f hj => absurd hj (Nat.not_lt_zero j), fun a ha => ⟨rfl, rfl, fun j => rfl⟩⟩
theorem TabI.step {k : Nat} {n f : Int} (t : TabI i L0 L o) (e : mdTab[i]? = some (k, n, f)) (hd : (mdTab.take i).all (fun q => decide (q.2.2 ≠ f)) = true) : TabI (i + 1) L0 (am_pf (am_al L k n) o f (nx L)) o := by
  obtain ⟨t1, t2, t3, t4, t5⟩ := t
  refine ⟨?_, ?_, ?_, fun j k' n' f' hj e' => ?_, fun a ha => ?_⟩
  · rw [kd_pf, kd_al, if_neg (by omega)]
    exact t1
  · rw [nx_pf, nx_al]
    omega
  · rw [us_pf, us_al, t3, List.take_add_one, e]
    simp [List.sum_append, Int.add_assoc]
  · rw [kd_pf, kd_al, ln_pf, ln_al, fF_pf, fF_al]
    rcases Nat.lt_or_ge j i with q | q
    · have hm : (k', n', f') ∈ mdTab.take i := List.mem_of_getElem? (i := j) (by rw [List.getElem?_take, if_pos q]; exact e')
      have hf : f' ≠ f := of_decide_eq_true (List.all_eq_true.mp hd _ hm)
      rw [if_neg (fun z => hf z.2), if_neg (by omega), if_neg (by omega)]
      exact t4 j k' n' f' q e'
    · have ej : j = i := by omega
      subst ej
      cases e.symm.trans e'
      rw [if_pos ⟨rfl, rfl⟩, if_pos (by omega), if_pos (by omega)]
      exact ⟨t2, rfl, rfl⟩
  · rw [kd_pf, kd_al, ln_pf, ln_al, if_neg (by omega), if_neg (by omega)]
    refine ⟨(t5 a ha).1, (t5 a ha).2.1, fun j => ?_⟩
    rw [fF_pf, fF_al, if_neg (by omega)]
    exact (t5 a ha).2.2 j
theorem TabI.next {k : Nat} {n f : Int} (t : TabI i L0 L o) (e : mdTab[i]? = some (k, n, f)) (hd : (mdTab.take i).all (fun q => decide (q.2.2 ≠ f)) = true) (kk : ∀ L1, TabI (i + 1) L0 L1 o → am_X G M d pc ls st L1 h Q) : am_X G M d pc ls st (am_pf (am_al L k n) o f (nx L)) h Q := kk _ (t.step e hd)
theorem TabI.at_ {k : Nat} {n f : Int} (t : TabI i L0 L o) (j : Nat) (c : Int) (hc : c = 1 + (j : Int)) (hj : j < i) (e : mdTab[j]? = some (k, n, f)) : fF L o f = o + c ∧ kd L (o + c) = k ∧ ln L (o + c) = n := by
  have := t.2.2.2.1 j k n f hj e
  rw [hc, ← Int.add_assoc]
  exact this
theorem MdL.of (t : TabI 52 L0 L o) : MdL L o := ⟨t.1, t.at_ 0 1 (by decide) (by decide) rfl, t.at_ 1 2 (by decide) (by decide) rfl, t.at_ 2 3 (by decide) (by decide) rfl, t.at_ 3 4 (by decide) (by decide) rfl, t.at_ 4 5 (by decide) (by decide) rfl, t.at_ 5 6 (by decide) (by decide) rfl, t.at_ 6 7 (by decide) (by decide) rfl, t.at_ 7 8 (by decide) (by decide) rfl, t.at_ 8 9 (by decide) (by decide) rfl, t.at_ 9 10 (by decide) (by decide) rfl, t.at_ 10 11 (by decide) (by decide) rfl, t.at_ 11 12 (by decide) (by decide) rfl, t.at_ 12 13 (by decide) (by decide) rfl, t.at_ 13 14 (by decide) (by decide) rfl, t.at_ 14 15 (by decide) (by decide) rfl, t.at_ 15 16 (by decide) (by decide) rfl, t.at_ 16 17 (by decide) (by decide) rfl, t.at_ 17 18 (by decide) (by decide) rfl, t.at_ 18 19 (by decide) (by decide) rfl, t.at_ 19 20 (by decide) (by decide) rfl, t.at_ 20 21 (by decide) (by decide) rfl, t.at_ 21 22 (by decide) (by decide) rfl, t.at_ 22 23 (by decide) (by decide) rfl, t.at_ 23 24 (by decide) (by decide) rfl, t.at_ 24 25 (by decide) (by decide) rfl, t.at_ 25 26 (by decide) (by decide) rfl, t.at_ 26 27 (by decide) (by decide) rfl, t.at_ 27 28 (by decide) (by decide) rfl, t.at_ 28 29 (by decide) (by decide) rfl, t.at_ 29 30 (by decide) (by decide) rfl, t.at_ 30 31 (by decide) (by decide) rfl, t.at_ 31 32 (by decide) (by decide) rfl, t.at_ 32 33 (by decide) (by decide) rfl, t.at_ 33 34 (by decide) (by decide) rfl, t.at_ 34 35 (by decide) (by decide) rfl, t.at_ 35 36 (by decide) (by decide) rfl, t.at_ 36 37 (by decide) (by decide) rfl, t.at_ 37 38 (by decide) (by decide) rfl, t.at_ 38 39 (by decide) (by decide) rfl, t.at_ 39 40 (by decide) (by decide) rfl, t.at_ 40 41 (by decide) (by decide) rfl, t.at_ 41 42 (by decide) (by decide) rfl, t.at_ 42 43 (by decide) (by decide) rfl, t.at_ 43 44 (by decide) (by decide) rfl, t.at_ 44 45 (by decide) (by decide) rfl, t.at_ 45 46 (by decide) (by decide) rfl, t.at_ 46 47 (by decide) (by decide) rfl, t.at_ 47 48 (by decide) (by decide) rfl, t.at_ 48 49 (by decide) (by decide) rfl, t.at_ 49 50 (by decide) (by decide) rfl, t.at_ 50 51 (by decide) (by decide) rfl, t.at_ 51 52 (by decide) (by decide) rfl⟩
/-- the keywords, as numbers -/
def kwL : List Int := [apN (apN (apN (apN (apN (apN (apN 0 116) 111) 119) 110) 0) 0) 0, apN (apN (apN (apN (apN (apN (apN 0 109) 97) 110) 0) 0) 0) 0, apN (apN (apN (apN (apN (apN (apN 0 103) 111) 101) 115) 0) 0) 0, apN (apN (apN (apN (apN (apN (apN 0 108) 111) 110) 103) 0) 0) 0, apN (apN (apN (apN (apN (apN (apN 0 101) 114) 114) 97) 110) 100) 0, apN (apN (apN (apN (apN (apN (apN 0 112) 105) 108) 108) 97) 114) 0, apN (apN (apN (apN (apN (apN (apN 0 100) 121) 101) 0) 0) 0) 0, apN (apN (apN (apN (apN (apN (apN 0 115) 101) 101) 100) 0) 0) 0, apN (apN (apN (apN (apN (apN (apN 0 105) 102) 0) 0) 0) 0) 0, apN (apN (apN (apN (apN (apN (apN 0 116) 104) 101) 110) 0) 0) 0, apN (apN (apN (apN (apN (apN (apN 0 101) 108) 115) 101) 0) 0) 0, apN (apN (apN (apN (apN (apN (apN 0 120) 0) 0) 0) 0) 0) 0, apN (apN (apN (apN (apN (apN (apN 0 121) 0) 0) 0) 0) 0) 0, apN (apN (apN (apN (apN (apN (apN 0 109) 105) 110) 117) 116) 101) 0, apN (apN (apN (apN (apN (apN (apN 0 108) 101) 102) 116) 0) 0) 0, apN (apN (apN (apN (apN (apN (apN 0 108) 111) 116) 0) 0) 0) 0, apN (apN (apN (apN (apN (apN (apN 0 114) 97) 110) 107) 0) 0) 0]
def kwN (w : Int) : Int := kwL.getD w.toNat 0
def T0 : Txt := ((0, 6, 6, 0, 0), fun _ => 0, fun _ => 0, fun _ => 0, fun _ => 0, fun _ _ => 0, fun _ _ => 0, fun _ => 0, fun _ => 0, fun _ => none, none)
def g0 : Sg := ((T0, begR T0), (0, fun _ => begR T0), (fun _ => none), (0, fun _ => 0, fun _ => 0, fun _ => 0), (0, fun _ => 0), -1)
theorem T0I : TxtI T0 := by
  refine ⟨by decide, by decide, by decide, by decide, by decide, fun m h0 h1 => ?_, fun p h0 h1 => ?_, fun la e => ?_⟩
  · have e : tM T0 = 0 := rfl
    omega
  · have e : tP T0 = 0 := rfl
    omega
  · cases e

theorem C_X13_init (hk : kd L o = 13) (hnx : nx L = o + 1) (h200 : 200 ≤ o) (hz : ∀ j, h o j = 0) (k : ∀ L' h', TwI L' h' o 0 g0 → (∀ w, 0 ≤ w → w < 17 → h' (o + 7) w = kwN w) → h' (o + 3) 401 = 0 → (∀ a, a < o → kd L' a = kd L a ∧ ln L' a = ln L a ∧ ∀ j, fF L' a j = fF L a j) → nx L' = o + 53 → us L' = us L + (mdTab.map (fun q => q.2.1)).sum → (∀ a, a < o → h' a = h a) → Q (.inl []) L' h') : am_C G mX13_init (d + 10) [aR o] L h Q := by
  refine x_start okX13_init rfl rfl rfl rfl ?_
  refine am_wf fun wf => ?_
  have hzz : ∀ a j, o ≤ a → h a j = 0 := fun a j ha => by
    rcases Int.lt_or_le o a with q | q
    · exact (wf.2.2.1 a j (by omega)).1
    · rw [show a = o by omega]
      exact hz j
  refine x_aload_0 dX13_init_0 ?_
  refine x_objInit dX13_init_1 q1554 q158 q159 (by omega) rfl ?_
  have t0 := TabI.zero hk hnx
  refine x_aload_0 dX13_init_4 ?_
  refine x_sipush dX13_init_5 rfl ?_
  refine x_newB dX13_init_8 q233 (by omega) (fun z8 => ?_)
  refine x_putCR dX13_init_10 fl1575_13 rfl trivial rfl rfl (by first | (exact MdL.k0 (by assumption)) | (first | assumption | exact TabI.k (by assumption) | exact TabI.ka (by assumption))) (by omega) ?_
  refine TabI.next t0 rfl rfl (fun L1 t1 => ?_)
  refine x_aload_0 dX13_init_13 ?_
  refine x_sipush dX13_init_14 rfl ?_
  refine x_newB dX13_init_17 q233 (by omega) (fun z17 => ?_)
  refine x_putCR dX13_init_19 fl1577_13 rfl trivial rfl rfl (by first | (exact MdL.k0 (by assumption)) | (first | assumption | exact TabI.k (by assumption) | exact TabI.ka (by assumption))) (by omega) ?_
  refine TabI.next t1 rfl rfl (fun L2 t2 => ?_)
  refine x_aload_0 dX13_init_22 ?_
  refine x_sipush dX13_init_23 rfl ?_
  refine x_newI dX13_init_26 q406 (by omega) (fun z26 => ?_)
  refine x_putCR dX13_init_28 fl1579_13 rfl trivial rfl rfl (by first | (exact MdL.k0 (by assumption)) | (first | assumption | exact TabI.k (by assumption) | exact TabI.ka (by assumption))) (by omega) ?_
  refine TabI.next t2 rfl rfl (fun L3 t3 => ?_)
  refine x_aload_0 dX13_init_31 ?_
  refine x_sipush dX13_init_32 rfl ?_
  refine x_newI dX13_init_35 q406 (by omega) (fun z35 => ?_)
  refine x_putCR dX13_init_37 fl1580_13 rfl trivial rfl rfl (by first | (exact MdL.k0 (by assumption)) | (first | assumption | exact TabI.k (by assumption) | exact TabI.ka (by assumption))) (by omega) ?_
  refine TabI.next t3 rfl rfl (fun L4 t4 => ?_)
  refine x_aload_0 dX13_init_40 ?_
  refine x_sipush dX13_init_41 rfl ?_
  refine x_newI dX13_init_44 q406 (by omega) (fun z44 => ?_)
  refine x_putCR dX13_init_46 fl1581_13 rfl trivial rfl rfl (by first | (exact MdL.k0 (by assumption)) | (first | assumption | exact TabI.k (by assumption) | exact TabI.ka (by assumption))) (by omega) ?_
  refine TabI.next t4 rfl rfl (fun L5 t5 => ?_)
  refine x_aload_0 dX13_init_49 ?_
  refine x_sipush dX13_init_50 rfl ?_
  refine x_newJ dX13_init_53 q1800 (by omega) (fun z53 => ?_)
  refine x_putCR dX13_init_55 fl1582_13 rfl trivial rfl rfl (by first | (exact MdL.k0 (by assumption)) | (first | assumption | exact TabI.k (by assumption) | exact TabI.ka (by assumption))) (by omega) ?_
  refine TabI.next t5 rfl rfl (fun L6 t6 => ?_)
  refine x_aload_0 dX13_init_58 ?_
  refine x_bipush dX13_init_59 rfl ?_
  refine x_newJ dX13_init_61 q1800 (by omega) (fun z61 => ?_)
  refine x_putCR dX13_init_63 fl1583_13 rfl trivial rfl rfl (by first | (exact MdL.k0 (by assumption)) | (first | assumption | exact TabI.k (by assumption) | exact TabI.ka (by assumption))) (by omega) ?_
  refine TabI.next t6 rfl rfl (fun L7 t7 => ?_)
  refine x_aload_0 dX13_init_66 ?_
  refine x_iconst dX13_init_67 ?_
  refine x_putI_ dX13_init_68 fl1591_13 (by first | (exact MdL.k0 (by assumption)) | (first | assumption | exact TabI.k (by assumption) | exact TabI.ka (by assumption))) (by first | omega | decide) ?_
  refine x_aload_0 dX13_init_71 ?_
  refine x_bipush dX13_init_72 rfl ?_
  refine x_newJ dX13_init_74 q1800 (by omega) (fun z74 => ?_)
  refine x_putCR dX13_init_76 fl1595_13 rfl trivial rfl rfl (by first | (exact MdL.k0 (by assumption)) | (first | assumption | exact TabI.k (by assumption) | exact TabI.ka (by assumption))) (by omega) ?_
  refine TabI.next t7 rfl rfl (fun L8 t8 => ?_)
  refine x_aload_0 dX13_init_79 ?_
  refine x_iconst dX13_init_80 ?_
  refine x_newI dX13_init_81 q406 (by omega) (fun z81 => ?_)
  refine x_putCR dX13_init_83 fl1596_13 rfl trivial rfl rfl (by first | (exact MdL.k0 (by assumption)) | (first | assumption | exact TabI.k (by assumption) | exact TabI.ka (by assumption))) (by omega) ?_
  refine TabI.next t8 rfl rfl (fun L9 t9 => ?_)
  refine x_aload_0 dX13_init_86 ?_
  refine x_iconst dX13_init_87 ?_
  refine x_newI dX13_init_88 q406 (by omega) (fun z88 => ?_)
  refine x_putCR dX13_init_90 fl1597_13 rfl trivial rfl rfl (by first | (exact MdL.k0 (by assumption)) | (first | assumption | exact TabI.k (by assumption) | exact TabI.ka (by assumption))) (by omega) ?_
  refine TabI.next t9 rfl rfl (fun L10 t10 => ?_)
  refine x_aload_0 dX13_init_93 ?_
  refine x_iconst dX13_init_94 ?_
  refine x_newI dX13_init_95 q406 (by omega) (fun z95 => ?_)
  refine x_putCR dX13_init_97 fl1598_13 rfl trivial rfl rfl (by first | (exact MdL.k0 (by assumption)) | (first | assumption | exact TabI.k (by assumption) | exact TabI.ka (by assumption))) (by omega) ?_
  refine TabI.next t10 rfl rfl (fun L11 t11 => ?_)
  refine x_aload_0 dX13_init_100 ?_
  refine x_bipush dX13_init_101 rfl ?_
  refine x_newI dX13_init_103 q406 (by omega) (fun z103 => ?_)
  refine x_putCR dX13_init_105 fl1599_13 rfl trivial rfl rfl (by first | (exact MdL.k0 (by assumption)) | (first | assumption | exact TabI.k (by assumption) | exact TabI.ka (by assumption))) (by omega) ?_
  refine TabI.next t11 rfl rfl (fun L12 t12 => ?_)
  refine x_aload_0 dX13_init_108 ?_
  refine x_bipush dX13_init_109 rfl ?_
  refine x_newI dX13_init_111 q406 (by omega) (fun z111 => ?_)
  refine x_putCR dX13_init_113 fl1600_13 rfl trivial rfl rfl (by first | (exact MdL.k0 (by assumption)) | (first | assumption | exact TabI.k (by assumption) | exact TabI.ka (by assumption))) (by omega) ?_
  refine TabI.next t12 rfl rfl (fun L13 t13 => ?_)
  refine x_aload_0 dX13_init_116 ?_
  refine x_bipush dX13_init_117 rfl ?_
  refine x_newI dX13_init_119 q406 (by omega) (fun z119 => ?_)
  refine x_putCR dX13_init_121 fl1601_13 rfl trivial rfl rfl (by first | (exact MdL.k0 (by assumption)) | (first | assumption | exact TabI.k (by assumption) | exact TabI.ka (by assumption))) (by omega) ?_
  refine TabI.next t13 rfl rfl (fun L14 t14 => ?_)
  refine x_aload_0 dX13_init_124 ?_
  refine x_bipush dX13_init_125 rfl ?_
  refine x_newI dX13_init_127 q406 (by omega) (fun z127 => ?_)
  refine x_putCR dX13_init_129 fl1602_13 rfl trivial rfl rfl (by first | (exact MdL.k0 (by assumption)) | (first | assumption | exact TabI.k (by assumption) | exact TabI.ka (by assumption))) (by omega) ?_
  refine TabI.next t14 rfl rfl (fun L15 t15 => ?_)
  refine x_aload_0 dX13_init_132 ?_
  refine x_bipush dX13_init_133 rfl ?_
  refine x_newI dX13_init_135 q406 (by omega) (fun z135 => ?_)
  refine x_putCR dX13_init_137 fl1603_13 rfl trivial rfl rfl (by first | (exact MdL.k0 (by assumption)) | (first | assumption | exact TabI.k (by assumption) | exact TabI.ka (by assumption))) (by omega) ?_
  refine TabI.next t15 rfl rfl (fun L16 t16 => ?_)
  refine x_aload_0 dX13_init_140 ?_
  refine x_bipush dX13_init_141 rfl ?_
  refine x_newI dX13_init_143 q406 (by omega) (fun z143 => ?_)
  refine x_putCR dX13_init_145 fl1604_13 rfl trivial rfl rfl (by first | (exact MdL.k0 (by assumption)) | (first | assumption | exact TabI.k (by assumption) | exact TabI.ka (by assumption))) (by omega) ?_
  refine TabI.next t16 rfl rfl (fun L17 t17 => ?_)
  refine x_aload_0 dX13_init_148 ?_
  refine x_iconst dX13_init_149 ?_
  refine x_newI dX13_init_150 q406 (by omega) (fun z150 => ?_)
  refine x_putCR dX13_init_152 fl1605_13 rfl trivial rfl rfl (by first | (exact MdL.k0 (by assumption)) | (first | assumption | exact TabI.k (by assumption) | exact TabI.ka (by assumption))) (by omega) ?_
  refine TabI.next t17 rfl rfl (fun L18 t18 => ?_)
  refine x_aload_0 dX13_init_155 ?_
  refine x_bipush dX13_init_156 rfl ?_
  refine x_newI dX13_init_158 q406 (by omega) (fun z158 => ?_)
  refine x_putCR dX13_init_160 fl1606_13 rfl trivial rfl rfl (by first | (exact MdL.k0 (by assumption)) | (first | assumption | exact TabI.k (by assumption) | exact TabI.ka (by assumption))) (by omega) ?_
  refine TabI.next t18 rfl rfl (fun L19 t19 => ?_)
  refine x_aload_0 dX13_init_163 ?_
  refine x_bipush dX13_init_164 rfl ?_
  refine x_newI dX13_init_166 q406 (by omega) (fun z166 => ?_)
  refine x_putCR dX13_init_168 fl1607_13 rfl trivial rfl rfl (by first | (exact MdL.k0 (by assumption)) | (first | assumption | exact TabI.k (by assumption) | exact TabI.ka (by assumption))) (by omega) ?_
  refine TabI.next t19 rfl rfl (fun L20 t20 => ?_)
  refine x_aload_0 dX13_init_171 ?_
  refine x_iconst dX13_init_172 ?_
  refine x_newI dX13_init_173 q406 (by omega) (fun z173 => ?_)
  refine x_putCR dX13_init_175 fl1608_13 rfl trivial rfl rfl (by first | (exact MdL.k0 (by assumption)) | (first | assumption | exact TabI.k (by assumption) | exact TabI.ka (by assumption))) (by omega) ?_
  refine TabI.next t20 rfl rfl (fun L21 t21 => ?_)
  refine x_aload_0 dX13_init_178 ?_
  refine x_bipush dX13_init_179 rfl ?_
  refine x_newI dX13_init_181 q406 (by omega) (fun z181 => ?_)
  refine x_putCR dX13_init_183 fl1610_13 rfl trivial rfl rfl (by first | (exact MdL.k0 (by assumption)) | (first | assumption | exact TabI.k (by assumption) | exact TabI.ka (by assumption))) (by omega) ?_
  refine TabI.next t21 rfl rfl (fun L22 t22 => ?_)
  refine x_aload_0 dX13_init_186 ?_
  refine x_bipush dX13_init_187 rfl ?_
  refine x_newI dX13_init_189 q406 (by omega) (fun z189 => ?_)
  refine x_putCR dX13_init_191 fl1611_13 rfl trivial rfl rfl (by first | (exact MdL.k0 (by assumption)) | (first | assumption | exact TabI.k (by assumption) | exact TabI.ka (by assumption))) (by omega) ?_
  refine TabI.next t22 rfl rfl (fun L23 t23 => ?_)
  refine x_aload_0 dX13_init_194 ?_
  refine x_bipush dX13_init_195 rfl ?_
  refine x_newI dX13_init_197 q406 (by omega) (fun z197 => ?_)
  refine x_putCR dX13_init_199 fl1612_13 rfl trivial rfl rfl (by first | (exact MdL.k0 (by assumption)) | (first | assumption | exact TabI.k (by assumption) | exact TabI.ka (by assumption))) (by omega) ?_
  refine TabI.next t23 rfl rfl (fun L24 t24 => ?_)
  refine x_aload_0 dX13_init_202 ?_
  refine x_bipush dX13_init_203 rfl ?_
  refine x_newI dX13_init_205 q406 (by omega) (fun z205 => ?_)
  refine x_putCR dX13_init_207 fl1613_13 rfl trivial rfl rfl (by first | (exact MdL.k0 (by assumption)) | (first | assumption | exact TabI.k (by assumption) | exact TabI.ka (by assumption))) (by omega) ?_
  refine TabI.next t24 rfl rfl (fun L25 t25 => ?_)
  refine x_aload_0 dX13_init_210 ?_
  refine x_bipush dX13_init_211 rfl ?_
  refine x_newI dX13_init_213 q406 (by omega) (fun z213 => ?_)
  refine x_putCR dX13_init_215 fl1614_13 rfl trivial rfl rfl (by first | (exact MdL.k0 (by assumption)) | (first | assumption | exact TabI.k (by assumption) | exact TabI.ka (by assumption))) (by omega) ?_
  refine TabI.next t25 rfl rfl (fun L26 t26 => ?_)
  refine x_aload_0 dX13_init_218 ?_
  refine x_sipush dX13_init_219 rfl ?_
  refine x_newZ dX13_init_222 q647 (by omega) (fun z222 => ?_)
  refine x_putCR dX13_init_224 fl1616_13 rfl trivial rfl rfl (by first | (exact MdL.k0 (by assumption)) | (first | assumption | exact TabI.k (by assumption) | exact TabI.ka (by assumption))) (by omega) ?_
  refine TabI.next t26 rfl rfl (fun L27 t27 => ?_)
  refine x_aload_0 dX13_init_227 ?_
  refine x_sipush dX13_init_228 rfl ?_
  refine x_newI dX13_init_231 q406 (by omega) (fun z231 => ?_)
  refine x_putCR dX13_init_233 fl1617_13 rfl trivial rfl rfl (by first | (exact MdL.k0 (by assumption)) | (first | assumption | exact TabI.k (by assumption) | exact TabI.ka (by assumption))) (by omega) ?_
  refine TabI.next t27 rfl rfl (fun L28 t28 => ?_)
  refine x_aload_0 dX13_init_236 ?_
  refine x_sipush dX13_init_237 rfl ?_
  refine x_newI dX13_init_240 q406 (by omega) (fun z240 => ?_)
  refine x_putCR dX13_init_242 fl1618_13 rfl trivial rfl rfl (by first | (exact MdL.k0 (by assumption)) | (first | assumption | exact TabI.k (by assumption) | exact TabI.ka (by assumption))) (by omega) ?_
  refine TabI.next t28 rfl rfl (fun L29 t29 => ?_)
  refine x_aload_0 dX13_init_245 ?_
  refine x_sipush dX13_init_246 rfl ?_
  refine x_newI dX13_init_249 q406 (by omega) (fun z249 => ?_)
  refine x_putCR dX13_init_251 fl1619_13 rfl trivial rfl rfl (by first | (exact MdL.k0 (by assumption)) | (first | assumption | exact TabI.k (by assumption) | exact TabI.ka (by assumption))) (by omega) ?_
  refine TabI.next t29 rfl rfl (fun L30 t30 => ?_)
  refine x_aload_0 dX13_init_254 ?_
  refine x_sipush dX13_init_255 rfl ?_
  refine x_newI dX13_init_258 q406 (by omega) (fun z258 => ?_)
  refine x_putCR dX13_init_260 fl1620_13 rfl trivial rfl rfl (by first | (exact MdL.k0 (by assumption)) | (first | assumption | exact TabI.k (by assumption) | exact TabI.ka (by assumption))) (by omega) ?_
  refine TabI.next t30 rfl rfl (fun L31 t31 => ?_)
  refine x_aload_0 dX13_init_263 ?_
  refine x_sipush dX13_init_264 rfl ?_
  refine x_newI dX13_init_267 q406 (by omega) (fun z267 => ?_)
  refine x_putCR dX13_init_269 fl1622_13 rfl trivial rfl rfl (by first | (exact MdL.k0 (by assumption)) | (first | assumption | exact TabI.k (by assumption) | exact TabI.ka (by assumption))) (by omega) ?_
  refine TabI.next t31 rfl rfl (fun L32 t32 => ?_)
  refine x_aload_0 dX13_init_272 ?_
  refine x_sipush dX13_init_273 rfl ?_
  refine x_newI dX13_init_276 q406 (by omega) (fun z276 => ?_)
  refine x_putCR dX13_init_278 fl1623_13 rfl trivial rfl rfl (by first | (exact MdL.k0 (by assumption)) | (first | assumption | exact TabI.k (by assumption) | exact TabI.ka (by assumption))) (by omega) ?_
  refine TabI.next t32 rfl rfl (fun L33 t33 => ?_)
  refine x_aload_0 dX13_init_281 ?_
  refine x_bipush dX13_init_282 rfl ?_
  refine x_newI dX13_init_284 q406 (by omega) (fun z284 => ?_)
  refine x_putCR dX13_init_286 fl1624_13 rfl trivial rfl rfl (by first | (exact MdL.k0 (by assumption)) | (first | assumption | exact TabI.k (by assumption) | exact TabI.ka (by assumption))) (by omega) ?_
  refine TabI.next t33 rfl rfl (fun L34 t34 => ?_)
  refine x_aload_0 dX13_init_289 ?_
  refine x_bipush dX13_init_290 rfl ?_
  refine x_newI dX13_init_292 q406 (by omega) (fun z292 => ?_)
  refine x_putCR dX13_init_294 fl1626_13 rfl trivial rfl rfl (by first | (exact MdL.k0 (by assumption)) | (first | assumption | exact TabI.k (by assumption) | exact TabI.ka (by assumption))) (by omega) ?_
  refine TabI.next t34 rfl rfl (fun L35 t35 => ?_)
  refine x_aload_0 dX13_init_297 ?_
  refine x_sipush dX13_init_298 rfl ?_
  refine x_newI dX13_init_301 q406 (by omega) (fun z301 => ?_)
  refine x_putCR dX13_init_303 fl1627_13 rfl trivial rfl rfl (by first | (exact MdL.k0 (by assumption)) | (first | assumption | exact TabI.k (by assumption) | exact TabI.ka (by assumption))) (by omega) ?_
  refine TabI.next t35 rfl rfl (fun L36 t36 => ?_)
  refine x_aload_0 dX13_init_306 ?_
  refine x_sipush dX13_init_307 rfl ?_
  refine x_newI dX13_init_310 q406 (by omega) (fun z310 => ?_)
  refine x_putCR dX13_init_312 fl1629_13 rfl trivial rfl rfl (by first | (exact MdL.k0 (by assumption)) | (first | assumption | exact TabI.k (by assumption) | exact TabI.ka (by assumption))) (by omega) ?_
  refine TabI.next t36 rfl rfl (fun L37 t37 => ?_)
  refine x_aload_0 dX13_init_315 ?_
  refine x_sipush dX13_init_316 rfl ?_
  refine x_newI dX13_init_319 q406 (by omega) (fun z319 => ?_)
  refine x_putCR dX13_init_321 fl1630_13 rfl trivial rfl rfl (by first | (exact MdL.k0 (by assumption)) | (first | assumption | exact TabI.k (by assumption) | exact TabI.ka (by assumption))) (by omega) ?_
  refine TabI.next t37 rfl rfl (fun L38 t38 => ?_)
  refine x_aload_0 dX13_init_324 ?_
  refine x_bipush dX13_init_325 rfl ?_
  refine x_newI dX13_init_327 q406 (by omega) (fun z327 => ?_)
  refine x_putCR dX13_init_329 fl1631_13 rfl trivial rfl rfl (by first | (exact MdL.k0 (by assumption)) | (first | assumption | exact TabI.k (by assumption) | exact TabI.ka (by assumption))) (by omega) ?_
  refine TabI.next t38 rfl rfl (fun L39 t39 => ?_)
  refine x_aload_0 dX13_init_332 ?_
  refine x_ldc (n := 38700) dX13_init_333 q1555 ?_
  refine x_newI dX13_init_335 q406 (by omega) (fun z335 => ?_)
  refine x_putCR dX13_init_337 fl1633_13 rfl trivial rfl rfl (by first | (exact MdL.k0 (by assumption)) | (first | assumption | exact TabI.k (by assumption) | exact TabI.ka (by assumption))) (by omega) ?_
  refine TabI.next t39 rfl rfl (fun L40 t40 => ?_)
  refine x_aload_0 dX13_init_340 ?_
  refine x_bipush dX13_init_341 rfl ?_
  refine x_newI dX13_init_343 q406 (by omega) (fun z343 => ?_)
  refine x_putCR dX13_init_345 fl1634_13 rfl trivial rfl rfl (by first | (exact MdL.k0 (by assumption)) | (first | assumption | exact TabI.k (by assumption) | exact TabI.ka (by assumption))) (by omega) ?_
  refine TabI.next t40 rfl rfl (fun L41 t41 => ?_)
  refine x_aload_0 dX13_init_348 ?_
  refine x_sipush dX13_init_349 rfl ?_
  refine x_newI dX13_init_352 q406 (by omega) (fun z352 => ?_)
  refine x_putCR dX13_init_354 fl1635_13 rfl trivial rfl rfl (by first | (exact MdL.k0 (by assumption)) | (first | assumption | exact TabI.k (by assumption) | exact TabI.ka (by assumption))) (by omega) ?_
  refine TabI.next t41 rfl rfl (fun L42 t42 => ?_)
  refine x_aload_0 dX13_init_357 ?_
  refine x_bipush dX13_init_358 rfl ?_
  refine x_newI dX13_init_360 q406 (by omega) (fun z360 => ?_)
  refine x_putCR dX13_init_362 fl1636_13 rfl trivial rfl rfl (by first | (exact MdL.k0 (by assumption)) | (first | assumption | exact TabI.k (by assumption) | exact TabI.ka (by assumption))) (by omega) ?_
  refine TabI.next t42 rfl rfl (fun L43 t43 => ?_)
  refine x_aload_0 dX13_init_365 ?_
  refine x_bipush dX13_init_366 rfl ?_
  refine x_newI dX13_init_368 q406 (by omega) (fun z368 => ?_)
  refine x_putCR dX13_init_370 fl1637_13 rfl trivial rfl rfl (by first | (exact MdL.k0 (by assumption)) | (first | assumption | exact TabI.k (by assumption) | exact TabI.ka (by assumption))) (by omega) ?_
  refine TabI.next t43 rfl rfl (fun L44 t44 => ?_)
  refine x_aload_0 dX13_init_373 ?_
  refine x_bipush dX13_init_374 rfl ?_
  refine x_newI dX13_init_376 q406 (by omega) (fun z376 => ?_)
  refine x_putCR dX13_init_378 fl1640_13 rfl trivial rfl rfl (by first | (exact MdL.k0 (by assumption)) | (first | assumption | exact TabI.k (by assumption) | exact TabI.ka (by assumption))) (by omega) ?_
  refine TabI.next t44 rfl rfl (fun L45 t45 => ?_)
  refine x_aload_0 dX13_init_381 ?_
  refine x_sipush dX13_init_382 rfl ?_
  refine x_newI dX13_init_385 q406 (by omega) (fun z385 => ?_)
  refine x_putCR dX13_init_387 fl1641_13 rfl trivial rfl rfl (by first | (exact MdL.k0 (by assumption)) | (first | assumption | exact TabI.k (by assumption) | exact TabI.ka (by assumption))) (by omega) ?_
  refine TabI.next t45 rfl rfl (fun L46 t46 => ?_)
  refine x_aload_0 dX13_init_390 ?_
  refine x_sipush dX13_init_391 rfl ?_
  refine x_newI dX13_init_394 q406 (by omega) (fun z394 => ?_)
  refine x_putCR dX13_init_396 fl1642_13 rfl trivial rfl rfl (by first | (exact MdL.k0 (by assumption)) | (first | assumption | exact TabI.k (by assumption) | exact TabI.ka (by assumption))) (by omega) ?_
  refine TabI.next t46 rfl rfl (fun L47 t47 => ?_)
  refine x_aload_0 dX13_init_399 ?_
  refine x_bipush dX13_init_400 rfl ?_
  refine x_newI dX13_init_402 q406 (by omega) (fun z402 => ?_)
  refine x_putCR dX13_init_404 fl1644_13 rfl trivial rfl rfl (by first | (exact MdL.k0 (by assumption)) | (first | assumption | exact TabI.k (by assumption) | exact TabI.ka (by assumption))) (by omega) ?_
  refine TabI.next t47 rfl rfl (fun L48 t48 => ?_)
  refine x_aload_0 dX13_init_407 ?_
  refine x_bipush dX13_init_408 rfl ?_
  refine x_newI dX13_init_410 q406 (by omega) (fun z410 => ?_)
  refine x_putCR dX13_init_412 fl1645_13 rfl trivial rfl rfl (by first | (exact MdL.k0 (by assumption)) | (first | assumption | exact TabI.k (by assumption) | exact TabI.ka (by assumption))) (by omega) ?_
  refine TabI.next t48 rfl rfl (fun L49 t49 => ?_)
  refine x_aload_0 dX13_init_415 ?_
  refine x_bipush dX13_init_416 rfl ?_
  refine x_newZ dX13_init_418 q647 (by omega) (fun z418 => ?_)
  refine x_putCR dX13_init_420 fl1646_13 rfl trivial rfl rfl (by first | (exact MdL.k0 (by assumption)) | (first | assumption | exact TabI.k (by assumption) | exact TabI.ka (by assumption))) (by omega) ?_
  refine TabI.next t49 rfl rfl (fun L50 t50 => ?_)
  refine x_aload_0 dX13_init_423 ?_
  refine x_iconst dX13_init_424 ?_
  refine x_newZ dX13_init_425 q647 (by omega) (fun z425 => ?_)
  refine x_putCR dX13_init_427 fl1647_13 rfl trivial rfl rfl (by first | (exact MdL.k0 (by assumption)) | (first | assumption | exact TabI.k (by assumption) | exact TabI.ka (by assumption))) (by omega) ?_
  refine TabI.next t50 rfl rfl (fun L51 t51 => ?_)
  refine x_aload_0 dX13_init_430 ?_
  refine x_sipush dX13_init_431 rfl ?_
  refine x_newI dX13_init_434 q406 (by omega) (fun z434 => ?_)
  refine x_putCR dX13_init_436 fl1648_13 rfl trivial rfl rfl (by first | (exact MdL.k0 (by assumption)) | (first | assumption | exact TabI.k (by assumption) | exact TabI.ka (by assumption))) (by omega) ?_
  refine TabI.next t51 rfl rfl (fun L52 t52 => ?_)
  have hL := MdL.of t52
  have hh1 : ∀ a j, o < a → am_st h o 17 (-1) a j = 0 := fun a j ha => by
    rw [am_st_at, if_neg (by omega)]
    exact hzz a j (by omega)
  refine x_aload_0 dX13_init_439 ?_
  refine x_iconst dX13_init_440 ?_
  refine x_callV1 dX13_init_441 rfl okX13_plain0 q1556 q1558 qs52 (by first | first | assumption | exact TabI.k (by assumption) | exact TabI.ka (by assumption) | (exact MdL.k0 (by assumption))) am_k13 rfl (C_X13_plain0 hL (by omega) (fun h1 p1 p2 p3 p4 => (x_k0 ?_)))
  refine x_aload_0 dX13_init_444 ?_
  refine x_getR dX13_init_445 fl1583_13 rfl (by first | (exact MdL.k0 (by assumption)) | (first | assumption | exact TabI.k (by assumption) | exact TabI.ka (by assumption))) (by first | (exact MdL.v_keys (by assumption)) | (assumption)) ?_
  refine x_iconst dX13_init_448 ?_
  refine x_bipush dX13_init_449 rfl ?_
  refine x_bipush dX13_init_451 rfl ?_
  refine x_bipush dX13_init_453 rfl ?_
  refine x_bipush dX13_init_455 rfl ?_
  refine x_iconst dX13_init_457 ?_
  refine x_iconst dX13_init_458 ?_
  refine x_iconst dX13_init_459 ?_
  refine x_callS7 dX13_init_460 rfl okX13_word q1560 q1561 rfl (C_X13_word (by omega) (by omega) (by omega) (by omega) (by omega) (by omega) (by omega) (x_k1 ?_))
  refine x_last_ dX13_init_463 (by first | (exact MdL.k_keys (by assumption)) | (first | assumption | exact TabI.k (by assumption) | exact TabI.ka (by assumption))) (by first | (exact MdL.x_keys (by assumption) (by omega) (by omega)) | (omega)) (by first | omega | decide) ?_
  refine x_aload_0 dX13_init_464 ?_
  refine x_getR dX13_init_465 fl1583_13 rfl (by first | (exact MdL.k0 (by assumption)) | (first | assumption | exact TabI.k (by assumption) | exact TabI.ka (by assumption))) (by first | (exact MdL.v_keys (by assumption)) | (assumption)) ?_
  refine x_iconst dX13_init_468 ?_
  refine x_bipush dX13_init_469 rfl ?_
  refine x_bipush dX13_init_471 rfl ?_
  refine x_bipush dX13_init_473 rfl ?_
  refine x_iconst dX13_init_475 ?_
  refine x_iconst dX13_init_476 ?_
  refine x_iconst dX13_init_477 ?_
  refine x_iconst dX13_init_478 ?_
  refine x_callS7 dX13_init_479 rfl okX13_word q1560 q1561 rfl (C_X13_word (by omega) (by omega) (by omega) (by omega) (by omega) (by omega) (by omega) (x_k1 ?_))
  refine x_last_ dX13_init_482 (by first | (exact MdL.k_keys (by assumption)) | (first | assumption | exact TabI.k (by assumption) | exact TabI.ka (by assumption))) (by first | (exact MdL.x_keys (by assumption) (by omega) (by omega)) | (omega)) (by first | omega | decide) ?_
  refine x_aload_0 dX13_init_483 ?_
  refine x_getR dX13_init_484 fl1583_13 rfl (by first | (exact MdL.k0 (by assumption)) | (first | assumption | exact TabI.k (by assumption) | exact TabI.ka (by assumption))) (by first | (exact MdL.v_keys (by assumption)) | (assumption)) ?_
  refine x_iconst dX13_init_487 ?_
  refine x_bipush dX13_init_488 rfl ?_
  refine x_bipush dX13_init_490 rfl ?_
  refine x_bipush dX13_init_492 rfl ?_
  refine x_bipush dX13_init_494 rfl ?_
  refine x_iconst dX13_init_496 ?_
  refine x_iconst dX13_init_497 ?_
  refine x_iconst dX13_init_498 ?_
  refine x_callS7 dX13_init_499 rfl okX13_word q1560 q1561 rfl (C_X13_word (by omega) (by omega) (by omega) (by omega) (by omega) (by omega) (by omega) (x_k1 ?_))
  refine x_last_ dX13_init_502 (by first | (exact MdL.k_keys (by assumption)) | (first | assumption | exact TabI.k (by assumption) | exact TabI.ka (by assumption))) (by first | (exact MdL.x_keys (by assumption) (by omega) (by omega)) | (omega)) (by first | omega | decide) ?_
  refine x_aload_0 dX13_init_503 ?_
  refine x_getR dX13_init_504 fl1583_13 rfl (by first | (exact MdL.k0 (by assumption)) | (first | assumption | exact TabI.k (by assumption) | exact TabI.ka (by assumption))) (by first | (exact MdL.v_keys (by assumption)) | (assumption)) ?_
  refine x_iconst dX13_init_507 ?_
  refine x_bipush dX13_init_508 rfl ?_
  refine x_bipush dX13_init_510 rfl ?_
  refine x_bipush dX13_init_512 rfl ?_
  refine x_bipush dX13_init_514 rfl ?_
  refine x_iconst dX13_init_516 ?_
  refine x_iconst dX13_init_517 ?_
  refine x_iconst dX13_init_518 ?_
  refine x_callS7 dX13_init_519 rfl okX13_word q1560 q1561 rfl (C_X13_word (by omega) (by omega) (by omega) (by omega) (by omega) (by omega) (by omega) (x_k1 ?_))
  refine x_last_ dX13_init_522 (by first | (exact MdL.k_keys (by assumption)) | (first | assumption | exact TabI.k (by assumption) | exact TabI.ka (by assumption))) (by first | (exact MdL.x_keys (by assumption) (by omega) (by omega)) | (omega)) (by first | omega | decide) ?_
  refine x_aload_0 dX13_init_523 ?_
  refine x_getR dX13_init_524 fl1583_13 rfl (by first | (exact MdL.k0 (by assumption)) | (first | assumption | exact TabI.k (by assumption) | exact TabI.ka (by assumption))) (by first | (exact MdL.v_keys (by assumption)) | (assumption)) ?_
  refine x_iconst dX13_init_527 ?_
  refine x_bipush dX13_init_528 rfl ?_
  refine x_bipush dX13_init_530 rfl ?_
  refine x_bipush dX13_init_532 rfl ?_
  refine x_bipush dX13_init_534 rfl ?_
  refine x_bipush dX13_init_536 rfl ?_
  refine x_bipush dX13_init_538 rfl ?_
  refine x_iconst dX13_init_540 ?_
  refine x_callS7 dX13_init_541 rfl okX13_word q1560 q1561 rfl (C_X13_word (by omega) (by omega) (by omega) (by omega) (by omega) (by omega) (by omega) (x_k1 ?_))
  refine x_last_ dX13_init_544 (by first | (exact MdL.k_keys (by assumption)) | (first | assumption | exact TabI.k (by assumption) | exact TabI.ka (by assumption))) (by first | (exact MdL.x_keys (by assumption) (by omega) (by omega)) | (omega)) (by first | omega | decide) ?_
  refine x_aload_0 dX13_init_545 ?_
  refine x_getR dX13_init_546 fl1583_13 rfl (by first | (exact MdL.k0 (by assumption)) | (first | assumption | exact TabI.k (by assumption) | exact TabI.ka (by assumption))) (by first | (exact MdL.v_keys (by assumption)) | (assumption)) ?_
  refine x_iconst dX13_init_549 ?_
  refine x_bipush dX13_init_550 rfl ?_
  refine x_bipush dX13_init_552 rfl ?_
  refine x_bipush dX13_init_554 rfl ?_
  refine x_bipush dX13_init_556 rfl ?_
  refine x_bipush dX13_init_558 rfl ?_
  refine x_bipush dX13_init_560 rfl ?_
  refine x_iconst dX13_init_562 ?_
  refine x_callS7 dX13_init_563 rfl okX13_word q1560 q1561 rfl (C_X13_word (by omega) (by omega) (by omega) (by omega) (by omega) (by omega) (by omega) (x_k1 ?_))
  refine x_last_ dX13_init_566 (by first | (exact MdL.k_keys (by assumption)) | (first | assumption | exact TabI.k (by assumption) | exact TabI.ka (by assumption))) (by first | (exact MdL.x_keys (by assumption) (by omega) (by omega)) | (omega)) (by first | omega | decide) ?_
  refine x_aload_0 dX13_init_567 ?_
  refine x_getR dX13_init_568 fl1583_13 rfl (by first | (exact MdL.k0 (by assumption)) | (first | assumption | exact TabI.k (by assumption) | exact TabI.ka (by assumption))) (by first | (exact MdL.v_keys (by assumption)) | (assumption)) ?_
  refine x_bipush dX13_init_571 rfl ?_
  refine x_bipush dX13_init_573 rfl ?_
  refine x_bipush dX13_init_575 rfl ?_
  refine x_bipush dX13_init_577 rfl ?_
  refine x_iconst dX13_init_579 ?_
  refine x_iconst dX13_init_580 ?_
  refine x_iconst dX13_init_581 ?_
  refine x_iconst dX13_init_582 ?_
  refine x_callS7 dX13_init_583 rfl okX13_word q1560 q1561 rfl (C_X13_word (by omega) (by omega) (by omega) (by omega) (by omega) (by omega) (by omega) (x_k1 ?_))
  refine x_last_ dX13_init_586 (by first | (exact MdL.k_keys (by assumption)) | (first | assumption | exact TabI.k (by assumption) | exact TabI.ka (by assumption))) (by first | (exact MdL.x_keys (by assumption) (by omega) (by omega)) | (omega)) (by first | omega | decide) ?_
  refine x_aload_0 dX13_init_587 ?_
  refine x_getR dX13_init_588 fl1583_13 rfl (by first | (exact MdL.k0 (by assumption)) | (first | assumption | exact TabI.k (by assumption) | exact TabI.ka (by assumption))) (by first | (exact MdL.v_keys (by assumption)) | (assumption)) ?_
  refine x_bipush dX13_init_591 rfl ?_
  refine x_bipush dX13_init_593 rfl ?_
  refine x_bipush dX13_init_595 rfl ?_
  refine x_bipush dX13_init_597 rfl ?_
  refine x_bipush dX13_init_599 rfl ?_
  refine x_iconst dX13_init_601 ?_
  refine x_iconst dX13_init_602 ?_
  refine x_iconst dX13_init_603 ?_
  refine x_callS7 dX13_init_604 rfl okX13_word q1560 q1561 rfl (C_X13_word (by omega) (by omega) (by omega) (by omega) (by omega) (by omega) (by omega) (x_k1 ?_))
  refine x_last_ dX13_init_607 (by first | (exact MdL.k_keys (by assumption)) | (first | assumption | exact TabI.k (by assumption) | exact TabI.ka (by assumption))) (by first | (exact MdL.x_keys (by assumption) (by omega) (by omega)) | (omega)) (by first | omega | decide) ?_
  refine x_aload_0 dX13_init_608 ?_
  refine x_getR dX13_init_609 fl1583_13 rfl (by first | (exact MdL.k0 (by assumption)) | (first | assumption | exact TabI.k (by assumption) | exact TabI.ka (by assumption))) (by first | (exact MdL.v_keys (by assumption)) | (assumption)) ?_
  refine x_bipush dX13_init_612 rfl ?_
  refine x_bipush dX13_init_614 rfl ?_
  refine x_bipush dX13_init_616 rfl ?_
  refine x_iconst dX13_init_618 ?_
  refine x_iconst dX13_init_619 ?_
  refine x_iconst dX13_init_620 ?_
  refine x_iconst dX13_init_621 ?_
  refine x_iconst dX13_init_622 ?_
  refine x_callS7 dX13_init_623 rfl okX13_word q1560 q1561 rfl (C_X13_word (by omega) (by omega) (by omega) (by omega) (by omega) (by omega) (by omega) (x_k1 ?_))
  refine x_last_ dX13_init_626 (by first | (exact MdL.k_keys (by assumption)) | (first | assumption | exact TabI.k (by assumption) | exact TabI.ka (by assumption))) (by first | (exact MdL.x_keys (by assumption) (by omega) (by omega)) | (omega)) (by first | omega | decide) ?_
  refine x_aload_0 dX13_init_627 ?_
  refine x_getR dX13_init_628 fl1583_13 rfl (by first | (exact MdL.k0 (by assumption)) | (first | assumption | exact TabI.k (by assumption) | exact TabI.ka (by assumption))) (by first | (exact MdL.v_keys (by assumption)) | (assumption)) ?_
  refine x_bipush dX13_init_631 rfl ?_
  refine x_bipush dX13_init_633 rfl ?_
  refine x_bipush dX13_init_635 rfl ?_
  refine x_bipush dX13_init_637 rfl ?_
  refine x_bipush dX13_init_639 rfl ?_
  refine x_iconst dX13_init_641 ?_
  refine x_iconst dX13_init_642 ?_
  refine x_iconst dX13_init_643 ?_
  refine x_callS7 dX13_init_644 rfl okX13_word q1560 q1561 rfl (C_X13_word (by omega) (by omega) (by omega) (by omega) (by omega) (by omega) (by omega) (x_k1 ?_))
  refine x_last_ dX13_init_647 (by first | (exact MdL.k_keys (by assumption)) | (first | assumption | exact TabI.k (by assumption) | exact TabI.ka (by assumption))) (by first | (exact MdL.x_keys (by assumption) (by omega) (by omega)) | (omega)) (by first | omega | decide) ?_
  refine x_aload_0 dX13_init_648 ?_
  refine x_getR dX13_init_649 fl1583_13 rfl (by first | (exact MdL.k0 (by assumption)) | (first | assumption | exact TabI.k (by assumption) | exact TabI.ka (by assumption))) (by first | (exact MdL.v_keys (by assumption)) | (assumption)) ?_
  refine x_bipush dX13_init_652 rfl ?_
  refine x_bipush dX13_init_654 rfl ?_
  refine x_bipush dX13_init_656 rfl ?_
  refine x_bipush dX13_init_658 rfl ?_
  refine x_bipush dX13_init_660 rfl ?_
  refine x_iconst dX13_init_662 ?_
  refine x_iconst dX13_init_663 ?_
  refine x_iconst dX13_init_664 ?_
  refine x_callS7 dX13_init_665 rfl okX13_word q1560 q1561 rfl (C_X13_word (by omega) (by omega) (by omega) (by omega) (by omega) (by omega) (by omega) (x_k1 ?_))
  refine x_last_ dX13_init_668 (by first | (exact MdL.k_keys (by assumption)) | (first | assumption | exact TabI.k (by assumption) | exact TabI.ka (by assumption))) (by first | (exact MdL.x_keys (by assumption) (by omega) (by omega)) | (omega)) (by first | omega | decide) ?_
  refine x_aload_0 dX13_init_669 ?_
  refine x_getR dX13_init_670 fl1583_13 rfl (by first | (exact MdL.k0 (by assumption)) | (first | assumption | exact TabI.k (by assumption) | exact TabI.ka (by assumption))) (by first | (exact MdL.v_keys (by assumption)) | (assumption)) ?_
  refine x_bipush dX13_init_673 rfl ?_
  refine x_bipush dX13_init_675 rfl ?_
  refine x_iconst dX13_init_677 ?_
  refine x_iconst dX13_init_678 ?_
  refine x_iconst dX13_init_679 ?_
  refine x_iconst dX13_init_680 ?_
  refine x_iconst dX13_init_681 ?_
  refine x_iconst dX13_init_682 ?_
  refine x_callS7 dX13_init_683 rfl okX13_word q1560 q1561 rfl (C_X13_word (by omega) (by omega) (by omega) (by omega) (by omega) (by omega) (by omega) (x_k1 ?_))
  refine x_last_ dX13_init_686 (by first | (exact MdL.k_keys (by assumption)) | (first | assumption | exact TabI.k (by assumption) | exact TabI.ka (by assumption))) (by first | (exact MdL.x_keys (by assumption) (by omega) (by omega)) | (omega)) (by first | omega | decide) ?_
  refine x_aload_0 dX13_init_687 ?_
  refine x_getR dX13_init_688 fl1583_13 rfl (by first | (exact MdL.k0 (by assumption)) | (first | assumption | exact TabI.k (by assumption) | exact TabI.ka (by assumption))) (by first | (exact MdL.v_keys (by assumption)) | (assumption)) ?_
  refine x_bipush dX13_init_691 rfl ?_
  refine x_bipush dX13_init_693 rfl ?_
  refine x_iconst dX13_init_695 ?_
  refine x_iconst dX13_init_696 ?_
  refine x_iconst dX13_init_697 ?_
  refine x_iconst dX13_init_698 ?_
  refine x_iconst dX13_init_699 ?_
  refine x_iconst dX13_init_700 ?_
  refine x_callS7 dX13_init_701 rfl okX13_word q1560 q1561 rfl (C_X13_word (by omega) (by omega) (by omega) (by omega) (by omega) (by omega) (by omega) (x_k1 ?_))
  refine x_last_ dX13_init_704 (by first | (exact MdL.k_keys (by assumption)) | (first | assumption | exact TabI.k (by assumption) | exact TabI.ka (by assumption))) (by first | (exact MdL.x_keys (by assumption) (by omega) (by omega)) | (omega)) (by first | omega | decide) ?_
  refine x_aload_0 dX13_init_705 ?_
  refine x_getR dX13_init_706 fl1583_13 rfl (by first | (exact MdL.k0 (by assumption)) | (first | assumption | exact TabI.k (by assumption) | exact TabI.ka (by assumption))) (by first | (exact MdL.v_keys (by assumption)) | (assumption)) ?_
  refine x_bipush dX13_init_709 rfl ?_
  refine x_bipush dX13_init_711 rfl ?_
  refine x_bipush dX13_init_713 rfl ?_
  refine x_bipush dX13_init_715 rfl ?_
  refine x_bipush dX13_init_717 rfl ?_
  refine x_bipush dX13_init_719 rfl ?_
  refine x_bipush dX13_init_721 rfl ?_
  refine x_iconst dX13_init_723 ?_
  refine x_callS7 dX13_init_724 rfl okX13_word q1560 q1561 rfl (C_X13_word (by omega) (by omega) (by omega) (by omega) (by omega) (by omega) (by omega) (x_k1 ?_))
  refine x_last_ dX13_init_727 (by first | (exact MdL.k_keys (by assumption)) | (first | assumption | exact TabI.k (by assumption) | exact TabI.ka (by assumption))) (by first | (exact MdL.x_keys (by assumption) (by omega) (by omega)) | (omega)) (by first | omega | decide) ?_
  refine x_aload_0 dX13_init_728 ?_
  refine x_getR dX13_init_729 fl1583_13 rfl (by first | (exact MdL.k0 (by assumption)) | (first | assumption | exact TabI.k (by assumption) | exact TabI.ka (by assumption))) (by first | (exact MdL.v_keys (by assumption)) | (assumption)) ?_
  refine x_bipush dX13_init_732 rfl ?_
  refine x_bipush dX13_init_734 rfl ?_
  refine x_bipush dX13_init_736 rfl ?_
  refine x_bipush dX13_init_738 rfl ?_
  refine x_bipush dX13_init_740 rfl ?_
  refine x_iconst dX13_init_742 ?_
  refine x_iconst dX13_init_743 ?_
  refine x_iconst dX13_init_744 ?_
  refine x_callS7 dX13_init_745 rfl okX13_word q1560 q1561 rfl (C_X13_word (by omega) (by omega) (by omega) (by omega) (by omega) (by omega) (by omega) (x_k1 ?_))
  refine x_last_ dX13_init_748 (by first | (exact MdL.k_keys (by assumption)) | (first | assumption | exact TabI.k (by assumption) | exact TabI.ka (by assumption))) (by first | (exact MdL.x_keys (by assumption) (by omega) (by omega)) | (omega)) (by first | omega | decide) ?_
  refine x_aload_0 dX13_init_749 ?_
  refine x_getR dX13_init_750 fl1583_13 rfl (by first | (exact MdL.k0 (by assumption)) | (first | assumption | exact TabI.k (by assumption) | exact TabI.ka (by assumption))) (by first | (exact MdL.v_keys (by assumption)) | (assumption)) ?_
  refine x_bipush dX13_init_753 rfl ?_
  refine x_bipush dX13_init_755 rfl ?_
  refine x_bipush dX13_init_757 rfl ?_
  refine x_bipush dX13_init_759 rfl ?_
  refine x_iconst dX13_init_761 ?_
  refine x_iconst dX13_init_762 ?_
  refine x_iconst dX13_init_763 ?_
  refine x_iconst dX13_init_764 ?_
  refine x_callS7 dX13_init_765 rfl okX13_word q1560 q1561 rfl (C_X13_word (by omega) (by omega) (by omega) (by omega) (by omega) (by omega) (by omega) (x_k1 ?_))
  refine x_last_ dX13_init_768 (by first | (exact MdL.k_keys (by assumption)) | (first | assumption | exact TabI.k (by assumption) | exact TabI.ka (by assumption))) (by first | (exact MdL.x_keys (by assumption) (by omega) (by omega)) | (omega)) (by first | omega | decide) ?_
  refine x_aload_0 dX13_init_769 ?_
  refine x_getR dX13_init_770 fl1583_13 rfl (by first | (exact MdL.k0 (by assumption)) | (first | assumption | exact TabI.k (by assumption) | exact TabI.ka (by assumption))) (by first | (exact MdL.v_keys (by assumption)) | (assumption)) ?_
  refine x_bipush dX13_init_773 rfl ?_
  refine x_bipush dX13_init_775 rfl ?_
  refine x_bipush dX13_init_777 rfl ?_
  refine x_bipush dX13_init_779 rfl ?_
  refine x_bipush dX13_init_781 rfl ?_
  refine x_iconst dX13_init_783 ?_
  refine x_iconst dX13_init_784 ?_
  refine x_iconst dX13_init_785 ?_
  refine x_callS7 dX13_init_786 rfl okX13_word q1560 q1561 rfl (C_X13_word (by omega) (by omega) (by omega) (by omega) (by omega) (by omega) (by omega) (x_k1 ?_))
  refine x_last_ dX13_init_789 (by first | (exact MdL.k_keys (by assumption)) | (first | assumption | exact TabI.k (by assumption) | exact TabI.ka (by assumption))) (by first | (exact MdL.x_keys (by assumption) (by omega) (by omega)) | (omega)) (by first | omega | decide) ?_
  skip
  generalize hg : am_st _ _ _ _ = h2
  have q1 : ∀ a j, a ≠ o + 7 → h2 a j = h1 a j := fun a j ha => by
    subst hg
    simp only [am_st_at]
    repeat rw [if_neg (fun z => ha z.1)]
  have q2 : ∀ w, 0 ≤ w → w < 17 → h2 (o + 7) w = kwN w := fun w z0 z1 => by
    subst hg
    simp only [am_st_at]
    have hw : w = 0 ∨ w = 1 ∨ w = 2 ∨ w = 3 ∨ w = 4 ∨ w = 5 ∨ w = 6 ∨ w = 7 ∨ w = 8 ∨ w = 9 ∨ w = 10 ∨ w = 11 ∨ w = 12 ∨ w = 13 ∨ w = 14 ∨ w = 15 ∨ w = 16 := by omega
    rcases hw with rfl | rfl | rfl | rfl | rfl | rfl | rfl | rfl | rfl | rfl | rfl | rfl | rfl | rfl | rfl | rfl | rfl <;> simp [kwN, kwL]
  clear hg
  have hA : ∀ a i, a ≠ o + 7 → ¬ sdR o 0 a i → h2 a i = am_st h o 17 (-1) a i := fun a i h7 hs => (q1 a i h7).trans (p1 a i hs)
  have hO : ∀ i, i ≠ 17 → h2 o i = 0 := fun i hi => by
    rw [hA o i (by omega) (by unfold sdR; omega), am_st_at, if_neg (by omega)]
    exact hz i
  have hM : MdT L52 h2 o 0 T0 := by
    refine ⟨hL, ⟨by omega, by omega⟩, hO _ (by omega), ?_, ?_, ?_, ?_, ?_, fun m z0 z1 => ?_, fun m z0 z1 => ?_, Or.inl ⟨rfl, ?_⟩⟩
    · rw [q1 _ _ (by omega)]; exact p2.2.2.1
    · rw [q1 _ _ (by omega)]; exact p2.1
    · rw [q1 _ _ (by omega)]; exact p2.2.1
    · rw [q1 _ _ (by omega)]; exact p2.2.2.2.1
    · rw [q1 _ _ (by omega)]; exact p2.2.2.2.2
    · have e : tM T0 = 0 := rfl
      omega
    · have e : tP T0 = 0 := rfl
      omega
    · rw [q1 _ _ (by omega), q1 _ _ (by omega)]
      exact (p3 7 (by omega) (by omega)).1.trans (p3 7 (by omega) (by omega)).2.symm
  refine x_aload_0 dX13_init_790 ?_
  refine x_callV0 dX13_init_791 rfl okX13_begins q1567 q1569 qs53 (by first | first | assumption | exact TabI.k (by assumption) | exact TabI.ka (by assumption) | (exact MdL.k0 (by assumption))) am_k13 rfl (C_X13_begins hM T0I (fun h3 b1 b2 b3 => (x_k0 ?_)))
  refine x_aload_0 dX13_init_794 ?_
  refine x_callV0 dX13_init_795 rfl okX13_keepsRow q1571 q1573 qs54 (by first | first | assumption | exact TabI.k (by assumption) | exact TabI.ka (by assumption) | (exact MdL.k0 (by assumption))) am_k13 rfl (C_X13_keepsRow hL (fun h4 c1 c2 => (x_k0 ?_)))
  refine x_ret dX13_init_798 rfl ?_
  skip
  have hB : ∀ a, a ≠ o + 37 → a ≠ o + 38 → a ≠ o + 39 → h4 a = h2 a := fun a z1 z2 z3 => (c1 a z1).trans (b1 a z2 z3)
  have hC : ∀ i, i ≠ 17 → h4 o i = 0 := fun i hi => by
    rw [hB o (by omega) (by omega) (by omega)]
    exact hO i hi
  have hD : ∀ a i, (a = o + 3 ∨ o + 40 ≤ a) → h4 a i = 0 := fun a i ha => by
    rw [hB a (by omega) (by omega) (by omega), hA a i (by omega) (by unfold sdR; omega)]
    exact hh1 a i (by omega)
  refine k L52 h4 ⟨⟨hM.fg (fun a i z0 z1 => by rw [hB a (by omega) (by omega) (by omega)]) (by rw [hB o (by omega) (by omega) (by omega)]), RwF.fr (RowI.beg T0I) T0I b2 (fun i z0 z1 => c2 i z0 z1)⟩, ⟨hC _ (by omega), fun j z0 z1 => ?_⟩, fun j z0 z1 => Or.inl ⟨rfl, hD _ _ (by omega)⟩, ⟨hC _ (by omega), fun j z0 z1 => ?_⟩, ⟨hC _ (by omega), fun j z0 z1 => ?_⟩, ?_⟩ ?_ (hD _ _ (by omega)) t52.2.2.2.2 ?_ t52.2.2.1 ?_
  · have e : gN g0 = 0 := rfl
    omega
  · have e : gK g0 = 0 := rfl
    omega
  · have e : gD g0 = 0 := rfl
    omega
  · rw [hB o (by omega) (by omega) (by omega), hA o _ (by omega) (by unfold sdR; omega), am_st_at, if_pos ⟨rfl, rfl⟩]
    rfl
  · intro w z0 z1
    rw [hB _ (by omega) (by omega) (by omega)]
    exact q2 w z0 z1
  · have := t52.2.1
    omega
  · intro a ha
    funext i
    rw [hB _ (by omega) (by omega) (by omega), hA a i (by omega) (by unfold sdR; omega), am_st_at, if_neg (by omega)]
end MINIT
