/-! WHAT STAYS when the layout grows (printed by tools/gen_lb.py) -/
set_option maxRecDepth 100000
section LBS
variable {L L' : am_L} {x o a c t : Int}
theorem ClL.lb (r : ClL L a) (hl : LB L L' c) (hc : a + 31 ≤ c) : ClL L' a := r.lx ((LX.rf L c 0 (a - 1)).lb hl (Int.le_refl _) (by omega)) hc (Or.inl (by omega))
theorem MkL.lb (r : MkL L x) (hl : LB L L' c) (hc : x + 1205 ≤ c) : MkL L' x := ⟨(hl x (by omega)).1.trans r.k0,
  ((hl x (by omega)).2.2 _).trans r.v_fault,
  (hl (x + 1) (by omega)).1.trans r.k_fault,
  ((hl x (by omega)).2.2 _).trans r.v_tokens,
  (hl (x + 2) (by omega)).1.trans r.k_tokens,
  ((hl x (by omega)).2.2 _).trans r.v_parser,
  (hl (x + 9) (by omega)).1.trans r.k_parser,
  ((hl x (by omega)).2.2 _).trans r.v_cloth,
  ((hl x (by omega)).2.2 _).trans r.v_trial,
  ((hl x (by omega)).2.2 _).trans r.v_past,
  (hl (x + 79) (by omega)).1.trans r.k_past,
  (hl (x + 79) (by omega)).2.1.trans r.l_past,
  ((hl x (by omega)).2.2 _).trans r.v_slots,
  (hl (x + 80) (by omega)).1.trans r.k_slots,
  (hl (x + 80) (by omega)).2.1.trans r.l_slots,
  ((hl x (by omega)).2.2 _).trans r.v_dusks,
  (hl (x + 174) (by omega)).1.trans r.k_dusks,
  (hl (x + 174) (by omega)).2.1.trans r.l_dusks,
  ((hl x (by omega)).2.2 _).trans r.v_held,
  (hl (x + 180) (by omega)).1.trans r.k_held,
  (hl (x + 180) (by omega)).2.1.trans r.l_held,
  ((hl x (by omega)).2.2 _).trans r.v_waitsFor,
  (hl (x + 181) (by omega)).1.trans r.k_waitsFor,
  (hl (x + 181) (by omega)).2.1.trans r.l_waitsFor,
  ((hl x (by omega)).2.2 _).trans r.v_ways,
  (hl (x + 182) (by omega)).1.trans r.k_ways,
  (hl (x + 182) (by omega)).2.1.trans r.l_ways,
  ((hl x (by omega)).2.2 _).trans r.v_left,
  (hl (x + 183) (by omega)).1.trans r.k_left,
  (hl (x + 183) (by omega)).2.1.trans r.l_left,
  ((hl x (by omega)).2.2 _).trans r.v_told,
  (hl (x + 248) (by omega)).1.trans r.k_told,
  (hl (x + 248) (by omega)).2.1.trans r.l_told,
  ((hl x (by omega)).2.2 _).trans r.v_lies,
  (hl (x + 249) (by omega)).1.trans r.k_lies,
  (hl (x + 249) (by omega)).2.1.trans r.l_lies,
  ((hl x (by omega)).2.2 _).trans r.v_toldMan,
  (hl (x + 271) (by omega)).1.trans r.k_toldMan,
  (hl (x + 271) (by omega)).2.1.trans r.l_toldMan,
  ((hl x (by omega)).2.2 _).trans r.v_toldOther,
  (hl (x + 272) (by omega)).1.trans r.k_toldOther,
  (hl (x + 272) (by omega)).2.1.trans r.l_toldOther,
  ((hl x (by omega)).2.2 _).trans r.v_start,
  (hl (x + 273) (by omega)).1.trans r.k_start,
  (hl (x + 273) (by omega)).2.1.trans r.l_start,
  ((hl x (by omega)).2.2 _).trans r.v_toldOver,
  (hl (x + 274) (by omega)).1.trans r.k_toldOver,
  (hl (x + 274) (by omega)).2.1.trans r.l_toldOver,
  ((hl (x + 2) (by omega)).2.2 _).trans r.v_words,
  (hl (x + 3) (by omega)).1.trans r.k_words,
  (hl (x + 3) (by omega)).2.1.trans r.l_words,
  ((hl (x + 2) (by omega)).2.2 _).trans r.v_tape,
  (hl (x + 4) (by omega)).1.trans r.k_tape,
  (hl (x + 4) (by omega)).2.1.trans r.l_tape,
  ((hl (x + 2) (by omega)).2.2 _).trans r.v_sort,
  (hl (x + 5) (by omega)).1.trans r.k_sort,
  (hl (x + 5) (by omega)).2.1.trans r.l_sort,
  ((hl (x + 2) (by omega)).2.2 _).trans r.v_from,
  (hl (x + 6) (by omega)).1.trans r.k_from,
  (hl (x + 6) (by omega)).2.1.trans r.l_from,
  ((hl (x + 2) (by omega)).2.2 _).trans r.v_to,
  (hl (x + 7) (by omega)).1.trans r.k_to,
  (hl (x + 7) (by omega)).2.1.trans r.l_to,
  ((hl (x + 2) (by omega)).2.2 _).trans r.v_what,
  (hl (x + 8) (by omega)).1.trans r.k_what,
  (hl (x + 8) (by omega)).2.1.trans r.l_what,
  ((hl (x + 9) (by omega)).2.2 _).trans r.v_t,
  ((hl (x + 9) (by omega)).2.2 _).trans r.v_pfault,
  r.cloth.lb hl (by omega),
  r.trial.lb hl (by omega),
  fun k z0 z1 => ⟨((hl (x + 79) (by omega)).2.2 _).trans (r.pastA k z0 z1).1, (r.pastA k z0 z1).2.lb hl (by omega)⟩,
  fun k z0 z1 => ⟨((hl (x + 80) (by omega)).2.2 _).trans (r.slotA k z0 z1).1, (r.slotA k z0 z1).2.lb hl (by omega)⟩,
  fun k z0 z1 => ((hl (x + 174) (by omega)).2.2 _).trans (r.duskA k z0 z1),
  (hl (x + 175) (by omega)).1.trans r.dusk0,
  (hl (x + 176) (by omega)).1.trans r.dusk1,
  (hl (x + 177) (by omega)).1.trans r.dusk2,
  (hl (x + 178) (by omega)).1.trans r.dusk3,
  (hl (x + 179) (by omega)).1.trans r.dusk4,
  fun k z0 z1 => ⟨((hl (x + 183) (by omega)).2.2 _).trans (r.leftA k z0 z1).1, (hl (x + 184 + k) (by omega)).1.trans (r.leftA k z0 z1).2.1, (hl (x + 184 + k) (by omega)).2.1.trans (r.leftA k z0 z1).2.2⟩,
  fun k z0 z1 => ⟨((hl (x + 249) (by omega)).2.2 _).trans (r.liesA k z0 z1).1, (hl (x + 250 + 3 * k) (by omega)).1.trans (r.liesA k z0 z1).2.1, (hl (x + 250 + 3 * k) (by omega)).2.1.trans (r.liesA k z0 z1).2.2⟩,
  fun k c0 z0 z1 z2 z3 => ⟨((hl (x + 250 + 3 * k) (by omega)).2.2 _).trans (r.liesB k c0 z0 z1 z2 z3).1, (hl (x + 251 + 3 * k + c0) (by omega)).1.trans (r.liesB k c0 z0 z1 z2 z3).2.1, (hl (x + 251 + 3 * k + c0) (by omega)).2.1.trans (r.liesB k c0 z0 z1 z2 z3).2.2⟩⟩
theorem MdL.lb (r : MdL L o) (hl : LB L L' c) (hc : o + 53 ≤ c) : MdL L' o := ⟨(hl o (by omega)).1.trans r.k0,
  ⟨((hl o (by omega)).2.2 _).trans r.v_tape, (hl (o + 1) (by omega)).1.trans r.k_tape, (hl (o + 1) (by omega)).2.1.trans r.l_tape⟩,
  ⟨((hl o (by omega)).2.2 _).trans r.v_text, (hl (o + 2) (by omega)).1.trans r.k_text, (hl (o + 2) (by omega)).2.1.trans r.l_text⟩,
  ⟨((hl o (by omega)).2.2 _).trans r.v_tKind, (hl (o + 3) (by omega)).1.trans r.k_tKind, (hl (o + 3) (by omega)).2.1.trans r.l_tKind⟩,
  ⟨((hl o (by omega)).2.2 _).trans r.v_tPlace, (hl (o + 4) (by omega)).1.trans r.k_tPlace, (hl (o + 4) (by omega)).2.1.trans r.l_tPlace⟩,
  ⟨((hl o (by omega)).2.2 _).trans r.v_tValue, (hl (o + 5) (by omega)).1.trans r.k_tValue, (hl (o + 5) (by omega)).2.1.trans r.l_tValue⟩,
  ⟨((hl o (by omega)).2.2 _).trans r.v_tName, (hl (o + 6) (by omega)).1.trans r.k_tName, (hl (o + 6) (by omega)).2.1.trans r.l_tName⟩,
  ⟨((hl o (by omega)).2.2 _).trans r.v_keys, (hl (o + 7) (by omega)).1.trans r.k_keys, (hl (o + 7) (by omega)).2.1.trans r.l_keys⟩,
  ⟨((hl o (by omega)).2.2 _).trans r.v_nameOf, (hl (o + 8) (by omega)).1.trans r.k_nameOf, (hl (o + 8) (by omega)).2.1.trans r.l_nameOf⟩,
  ⟨((hl o (by omega)).2.2 _).trans r.v_wide, (hl (o + 9) (by omega)).1.trans r.k_wide, (hl (o + 9) (by omega)).2.1.trans r.l_wide⟩,
  ⟨((hl o (by omega)).2.2 _).trans r.v_high, (hl (o + 10) (by omega)).1.trans r.k_high, (hl (o + 10) (by omega)).2.1.trans r.l_high⟩,
  ⟨((hl o (by omega)).2.2 _).trans r.v_men, (hl (o + 11) (by omega)).1.trans r.k_men, (hl (o + 11) (by omega)).2.1.trans r.l_men⟩,
  ⟨((hl o (by omega)).2.2 _).trans r.v_doorX, (hl (o + 12) (by omega)).1.trans r.k_doorX, (hl (o + 12) (by omega)).2.1.trans r.l_doorX⟩,
  ⟨((hl o (by omega)).2.2 _).trans r.v_doorY, (hl (o + 13) (by omega)).1.trans r.k_doorY, (hl (o + 13) (by omega)).2.1.trans r.l_doorY⟩,
  ⟨((hl o (by omega)).2.2 _).trans r.v_dyeOf, (hl (o + 14) (by omega)).1.trans r.k_dyeOf, (hl (o + 14) (by omega)).2.1.trans r.l_dyeOf⟩,
  ⟨((hl o (by omega)).2.2 _).trans r.v_errands, (hl (o + 15) (by omega)).1.trans r.k_errands, (hl (o + 15) (by omega)).2.1.trans r.l_errands⟩,
  ⟨((hl o (by omega)).2.2 _).trans r.v_errandX, (hl (o + 16) (by omega)).1.trans r.k_errandX, (hl (o + 16) (by omega)).2.1.trans r.l_errandX⟩,
  ⟨((hl o (by omega)).2.2 _).trans r.v_errandY, (hl (o + 17) (by omega)).1.trans r.k_errandY, (hl (o + 17) (by omega)).2.1.trans r.l_errandY⟩,
  ⟨((hl o (by omega)).2.2 _).trans r.v_pillars, (hl (o + 18) (by omega)).1.trans r.k_pillars, (hl (o + 18) (by omega)).2.1.trans r.l_pillars⟩,
  ⟨((hl o (by omega)).2.2 _).trans r.v_pillarX, (hl (o + 19) (by omega)).1.trans r.k_pillarX, (hl (o + 19) (by omega)).2.1.trans r.l_pillarX⟩,
  ⟨((hl o (by omega)).2.2 _).trans r.v_pillarY, (hl (o + 20) (by omega)).1.trans r.k_pillarY, (hl (o + 20) (by omega)).2.1.trans r.l_pillarY⟩,
  ⟨((hl o (by omega)).2.2 _).trans r.v_seed, (hl (o + 21) (by omega)).1.trans r.k_seed, (hl (o + 21) (by omega)).2.1.trans r.l_seed⟩,
  ⟨((hl o (by omega)).2.2 _).trans r.v_cornerX, (hl (o + 22) (by omega)).1.trans r.k_cornerX, (hl (o + 22) (by omega)).2.1.trans r.l_cornerX⟩,
  ⟨((hl o (by omega)).2.2 _).trans r.v_cornerY, (hl (o + 23) (by omega)).1.trans r.k_cornerY, (hl (o + 23) (by omega)).2.1.trans r.l_cornerY⟩,
  ⟨((hl o (by omega)).2.2 _).trans r.v_cornerToken, (hl (o + 24) (by omega)).1.trans r.k_cornerToken, (hl (o + 24) (by omega)).2.1.trans r.l_cornerToken⟩,
  ⟨((hl o (by omega)).2.2 _).trans r.v_lawFirst, (hl (o + 25) (by omega)).1.trans r.k_lawFirst, (hl (o + 25) (by omega)).2.1.trans r.l_lawFirst⟩,
  ⟨((hl o (by omega)).2.2 _).trans r.v_lawLast, (hl (o + 26) (by omega)).1.trans r.k_lawLast, (hl (o + 26) (by omega)).2.1.trans r.l_lawLast⟩,
  ⟨((hl o (by omega)).2.2 _).trans r.v_hasTest, (hl (o + 27) (by omega)).1.trans r.k_hasTest, (hl (o + 27) (by omega)).2.1.trans r.l_hasTest⟩,
  ⟨((hl o (by omega)).2.2 _).trans r.v_testFrom, (hl (o + 28) (by omega)).1.trans r.k_testFrom, (hl (o + 28) (by omega)).2.1.trans r.l_testFrom⟩,
  ⟨((hl o (by omega)).2.2 _).trans r.v_testMid, (hl (o + 29) (by omega)).1.trans r.k_testMid, (hl (o + 29) (by omega)).2.1.trans r.l_testMid⟩,
  ⟨((hl o (by omega)).2.2 _).trans r.v_testTo, (hl (o + 30) (by omega)).1.trans r.k_testTo, (hl (o + 30) (by omega)).2.1.trans r.l_testTo⟩,
  ⟨((hl o (by omega)).2.2 _).trans r.v_termTo, (hl (o + 31) (by omega)).1.trans r.k_termTo, (hl (o + 31) (by omega)).2.1.trans r.l_termTo⟩,
  ⟨((hl o (by omega)).2.2 _).trans r.v_code, (hl (o + 32) (by omega)).1.trans r.k_code, (hl (o + 32) (by omega)).2.1.trans r.l_code⟩,
  ⟨((hl o (by omega)).2.2 _).trans r.v_codeInt, (hl (o + 33) (by omega)).1.trans r.k_codeInt, (hl (o + 33) (by omega)).2.1.trans r.l_codeInt⟩,
  ⟨((hl o (by omega)).2.2 _).trans r.v_waits, (hl (o + 34) (by omega)).1.trans r.k_waits, (hl (o + 34) (by omega)).2.1.trans r.l_waits⟩,
  ⟨((hl o (by omega)).2.2 _).trans r.v_variables, (hl (o + 35) (by omega)).1.trans r.k_variables, (hl (o + 35) (by omega)).2.1.trans r.l_variables⟩,
  ⟨((hl o (by omega)).2.2 _).trans r.v_pile, (hl (o + 36) (by omega)).1.trans r.k_pile, (hl (o + 36) (by omega)).2.1.trans r.l_pile⟩,
  ⟨((hl o (by omega)).2.2 _).trans r.v_now, (hl (o + 37) (by omega)).1.trans r.k_now, (hl (o + 37) (by omega)).2.1.trans r.l_now⟩,
  ⟨((hl o (by omega)).2.2 _).trans r.v_row, (hl (o + 38) (by omega)).1.trans r.k_row, (hl (o + 38) (by omega)).2.1.trans r.l_row⟩,
  ⟨((hl o (by omega)).2.2 _).trans r.v_later, (hl (o + 39) (by omega)).1.trans r.k_later, (hl (o + 39) (by omega)).2.1.trans r.l_later⟩,
  ⟨((hl o (by omega)).2.2 _).trans r.v_history, (hl (o + 40) (by omega)).1.trans r.k_history, (hl (o + 40) (by omega)).2.1.trans r.l_history⟩,
  ⟨((hl o (by omega)).2.2 _).trans r.v_waitsFor, (hl (o + 41) (by omega)).1.trans r.k_waitsFor, (hl (o + 41) (by omega)).2.1.trans r.l_waitsFor⟩,
  ⟨((hl o (by omega)).2.2 _).trans r.v_ordersOf, (hl (o + 42) (by omega)).1.trans r.k_ordersOf, (hl (o + 42) (by omega)).2.1.trans r.l_ordersOf⟩,
  ⟨((hl o (by omega)).2.2 _).trans r.v_order, (hl (o + 43) (by omega)).1.trans r.k_order, (hl (o + 43) (by omega)).2.1.trans r.l_order⟩,
  ⟨((hl o (by omega)).2.2 _).trans r.v_bestOrder, (hl (o + 44) (by omega)).1.trans r.k_bestOrder, (hl (o + 44) (by omega)).2.1.trans r.l_bestOrder⟩,
  ⟨((hl o (by omega)).2.2 _).trans r.v_keyOf, (hl (o + 45) (by omega)).1.trans r.k_keyOf, (hl (o + 45) (by omega)).2.1.trans r.l_keyOf⟩,
  ⟨((hl o (by omega)).2.2 _).trans r.v_laid, (hl (o + 46) (by omega)).1.trans r.k_laid, (hl (o + 46) (by omega)).2.1.trans r.l_laid⟩,
  ⟨((hl o (by omega)).2.2 _).trans r.v_crossed, (hl (o + 47) (by omega)).1.trans r.k_crossed, (hl (o + 47) (by omega)).2.1.trans r.l_crossed⟩,
  ⟨((hl o (by omega)).2.2 _).trans r.v_toldMan, (hl (o + 48) (by omega)).1.trans r.k_toldMan, (hl (o + 48) (by omega)).2.1.trans r.l_toldMan⟩,
  ⟨((hl o (by omega)).2.2 _).trans r.v_toldOther, (hl (o + 49) (by omega)).1.trans r.k_toldOther, (hl (o + 49) (by omega)).2.1.trans r.l_toldOther⟩,
  ⟨((hl o (by omega)).2.2 _).trans r.v_toldOver, (hl (o + 50) (by omega)).1.trans r.k_toldOver, (hl (o + 50) (by omega)).2.1.trans r.l_toldOver⟩,
  ⟨((hl o (by omega)).2.2 _).trans r.v_isHeld, (hl (o + 51) (by omega)).1.trans r.k_isHeld, (hl (o + 51) (by omega)).2.1.trans r.l_isHeld⟩,
  ⟨((hl o (by omega)).2.2 _).trans r.v_held, (hl (o + 52) (by omega)).1.trans r.k_held, (hl (o + 52) (by omega)).2.1.trans r.l_held⟩⟩
/-- all that is has been made -/
def hwL (L : am_L) (c : Int) : Prop := ∀ a, kd L a ≠ 99 → a < c
theorem hwL.of {h : am_H} (wf : am_Wf L h) : hwL L (nx L) := fun a q => (wf.2.1 a q).2.1
theorem KwL.lb (r : KwL L) (hw : hwL L c) (hl : LB L L' c) : KwL L' := fun w z0 z1 => by
  obtain ⟨r1, r2, r3, r4, r5, r6⟩ := r w z0 z1
  have e1 := hl (11 + w) (hw _ (by omega))
  have e2 := hl (31 + w) (hw _ (by omega))
  exact ⟨e1.1.trans r1, (e1.2.2 _).trans r2, (e1.2.2 _).trans r3, e2.1.trans r4, e2.2.1.trans r5, fun i y0 y1 => (e2.2.2 _).trans (r6 i y0 y1)⟩
theorem SumN.lb (hw : hwL L c) (hl : LB L L' c) : ∀ (n : Nat) {a : Int} {ta : Tau}, SumN n L a ta → SumN n L' a ta
  | 0, _, _, h => h.elim
  | n + 1, a, ta, h => by
    rcases h with ⟨h1, h2⟩ | ⟨h1, h2, h3⟩ | ⟨h1, t1, t2, h2, h3, h4⟩
    · have e := hl a (hw _ (by omega))
      exact Or.inl ⟨e.1.trans h1, by rw [e.2.2]; exact h2⟩
    · have e := hl a (hw _ (by omega))
      exact Or.inr (Or.inl ⟨e.1.trans h1, by rw [e.2.2]; exact h2, by rw [e.2.2]; exact h3⟩)
    · have e := hl a (hw _ (by omega))
      exact Or.inr (Or.inr ⟨e.1.trans h1, t1, t2, by rw [e.2.2]; exact SumN.lb hw hl n h2, by rw [e.2.2]; exact SumN.lb hw hl n h3, by rw [e.2.2]; exact h4⟩)
theorem LawAt.lb {la : Lam} (r : LawAt L a la) (hw : hwL L c) (hl : LB L L' c) : LawAt L' a la := by
  obtain ⟨r1, n, tl, tt, te, al, at_, ae, f0, f1, f2, f3, hn, k1, l1, k2, l2, k3, l3, s1, s2, e⟩ := r
  have e0 := hl a (hw _ (by omega))
  have e1 := hl al (hw _ (by omega))
  have e2 := hl at_ (hw _ (by omega))
  have e3 := hl ae (hw _ (by omega))
  refine ⟨e0.1.trans r1, n, tl, tt, te, al, at_, ae, (e0.2.2 _).trans f0, (e0.2.2 _).trans f1, (e0.2.2 _).trans f2, (e0.2.2 _).trans f3, hn, e1.1.trans k1, e1.2.1.trans l1, e2.1.trans k2, e2.2.1.trans l2, e3.1.trans k3, e3.2.1.trans l3, fun k z0 z1 => ?_, fun k z0 z1 => ?_, e⟩
  · rw [e1.2.2, e2.2.2]
    exact ⟨SumN.lb hw hl _ (s1 k z0 z1).1, SumN.lb hw hl _ (s1 k z0 z1).2⟩
  · rw [e3.2.2]
    exact SumN.lb hw hl _ (s2 k z0 z1)
theorem ManL.lb {T : Txt} {m : Int} (r : ManL L a T m) (hw : hwL L c) (hl : LB L L' c) : ManL L' a T m := by
  obtain ⟨r1, r2, r3, r4, r5, ⟨k1, l1, s1⟩, ⟨k2, l2, s2⟩, r8⟩ := r
  have e0 := hl a (hw _ (by omega))
  have e1 := hl (fF L a 1) (hw _ (by omega))
  have e2 := hl (fF L a 2) (hw _ (by omega))
  refine ⟨e0.1.trans r1, (e0.2.2 _).trans r2, (e0.2.2 _).trans r3, (e0.2.2 _).trans r4, (e0.2.2 _).trans r5, ?_, ?_, ?_⟩
  · rw [e0.2.2]
    exact ⟨e1.1.trans k1, e1.2.1.trans l1, fun k z0 z1 => (e1.2.2 _).trans (s1 k z0 z1)⟩
  · rw [e0.2.2]
    exact ⟨e2.1.trans k2, e2.2.1.trans l2, fun k z0 z1 => (e2.2.2 _).trans (s2 k z0 z1)⟩
  · rw [e0.2.2]
    rcases r8 with q | ⟨la, q1, q2⟩
    · exact Or.inl q
    · exact Or.inr ⟨la, q1, q2.lb hw hl⟩
theorem TxL.lb {T : Txt} (r : TxL L t T) (hw : hwL L c) (hl : LB L L' c) : TxL L' t T := by
  obtain ⟨r1, ⟨l1, l2, l3, l4, l5, l6⟩, r3, r4, r5, r6, r7, ⟨k1, m1, s1⟩, ⟨k2, m2, s2⟩, r10⟩ := r
  have e0 := hl t (hw _ (by omega))
  have e1 := hl (fF L t 0) (hw _ (by omega))
  have e2 := hl (fF L (fF L t 0) 1) (hw _ (by omega))
  have e3 := hl (fF L t 1) (hw _ (by omega))
  have e4 := hl (fF L t 2) (hw _ (by omega))
  have em : ∀ m, manA L' t m = manA L t m := fun m => by
    unfold manA
    rw [e0.2.2, e1.2.2, e2.2.2]
  refine ⟨e0.1.trans r1, ⟨?_, ?_, l3, ?_, ?_, fun i z0 z1 => ?_⟩, fun m z0 z1 => ?_, (e0.2.2 _).trans r4, (e0.2.2 _).trans r5, (e0.2.2 _).trans r6, (e0.2.2 _).trans r7, ?_, ?_, ?_⟩
  · rw [e0.2.2, e1.1]; exact l1
  · rw [e0.2.2, e1.2.2]; exact l2
  · rw [e0.2.2, e1.2.2, e2.1]; exact l4
  · rw [e0.2.2, e1.2.2, e2.2.1]; exact l5
  · rw [em, e0.2.2, e1.2.2, e2.2.2]; exact l6 i z0 z1
  · rw [em]; exact (r3 m z0 z1).lb hw hl
  · rw [e0.2.2, e3.1, e3.2.1]; exact ⟨k1, m1, fun p z0 z1 => by rw [e3.2.2]; exact s1 p z0 z1⟩
  · rw [e0.2.2, e4.1, e4.2.1]; exact ⟨k2, m2, fun p z0 z1 => by rw [e4.2.2]; exact s2 p z0 z1⟩
  · rw [e0.2.2]
    rcases r10 with q | ⟨la, q1, q2⟩
    · exact Or.inl q
    · exact Or.inr ⟨la, q1, q2.lb hw hl⟩
end LBS
