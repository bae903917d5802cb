/-! THREADTOWN READS: laws -/
set_option maxRecDepth 100000
section XLAW
variable {G : am_G} {M : am_M} {pc : Nat} {ls st : List AV} {L L' : am_L} {h h' : am_H} {x D N a c l i n1 n2 n3 : Int} {b : Int → Int} {d : Nat} {Q : am_O → am_L → am_H → Prop} {tl tt te : Int → Tau}
/-- a sum into an array -/
theorem x_aastS {n : Nat} {v w ar j : Int} {ta : Tau} (hd : decode M.2.1 pc = .ok (.aastore, 1)) (hk : kd L ar = 115) (ha : 200 ≤ ar) (hx : 0 ≤ j ∧ j < ln L ar) (hs : SumF n L w v ta) (kk : am_X G M d (pc + 1) ls st (am_pf L ar j v) h Q) : am_X G M d pc ls (aR v :: aI j :: aR ar :: st) L h Q := by
  have hk3 : kd L v = 17 ∨ kd L v = 18 ∨ kd L v = 19 := by
    match n, hs with
    | 0, hs => exact hs.elim
    | n + 1, hs => rcases hs.2 with hs | hs | hs <;> simp [hs.1]
  rcases hk3 with q | q | q
  · exact x_aast (k := 115) hd hk (by decide) (by decide) ha hx rfl q am_k17 (Or.inl q2272) kk
  · exact x_aast (k := 115) hd hk (by decide) (by decide) ha hx rfl q am_k18 (Or.inl q2273) kk
  · exact x_aast (k := 115) hd hk (by decide) (by decide) ha hx rfl q am_k19 (Or.inl q2274) kk
/-- a law, so far -/
def LwX (L : am_L) (l i n1 n2 n3 : Int) (tl tt te : Int → Tau) : Prop := kd L l = 15 ∧ (fF L l 0 = l + 1 ∧ fF L l 1 = l + 2 ∧ fF L l 2 = l + 3 ∧ fF L l 3 = i) ∧ (kd L (l + 1) = 115 ∧ ln L (l + 1) = 4) ∧ (kd L (l + 2) = 115 ∧ ln L (l + 2) = 4) ∧ (kd L (l + 3) = 115 ∧ ln L (l + 3) = 5) ∧
  (∀ k, 0 ≤ k → k < n1 → SumF 420 L (l + 4) (fF L (l + 1) k) (tl k)) ∧ (∀ k, 0 ≤ k → k < n2 → SumF 420 L (l + 4) (fF L (l + 2) k) (tt k)) ∧ (∀ k, 0 ≤ k → k < n3 → SumF 420 L (l + 4) (fF L (l + 3) k) (te k))
theorem LwX.up (r : LwX L l i n1 n2 n3 tl tt te) (hw : hwL L c) (hl : LB L L' c) : LwX L' l i n1 n2 n3 tl tt te := by
  obtain ⟨r1, ⟨r2, r3, r4, r5⟩, ⟨r6, r7⟩, ⟨r8, r9⟩, ⟨s1, s2⟩, s3, s4, s5⟩ := r
  have e0 := hl l (hw _ (by omega))
  have e1 := hl (l + 1) (hw _ (by omega))
  have e2 := hl (l + 2) (hw _ (by omega))
  have e3 := hl (l + 3) (hw _ (by omega))
  exact ⟨e0.1.trans r1, ⟨(e0.2.2 _).trans r2, (e0.2.2 _).trans r3, (e0.2.2 _).trans r4, (e0.2.2 _).trans r5⟩, ⟨e1.1.trans r6, e1.2.1.trans r7⟩, ⟨e2.1.trans r8, e2.2.1.trans r9⟩, ⟨e3.1.trans s1, e3.2.1.trans s2⟩, fun k z0 z1 => by rw [e1.2.2]; exact SumF.lb hw hl _ (s3 k z0 z1), fun k z0 z1 => by rw [e2.2.2]; exact SumF.lb hw hl _ (s4 k z0 z1), fun k z0 z1 => by rw [e3.2.2]; exact SumF.lb hw hl _ (s5 k z0 z1)⟩
theorem LwX.p1 {v : Int} {t : Tau} (r : LwX L l i n1 n2 n3 tl tt te) (hv : SumF 420 L (l + 4) v t) : LwX (am_pf L (l + 1) n1 v) l i (n1 + 1) n2 n3 (upT tl n1 t) tt te := by
  obtain ⟨r1, ⟨r2, r3, r4, r5⟩, r6, r8, s1, s3, s4, s5⟩ := r
  have e : ∀ y j, y ≠ l + 1 → fF (am_pf L (l + 1) n1 v) y j = fF L y j := fun y j z => by rw [fF_pf, if_neg (fun q => z q.1)]
  refine ⟨r1, ⟨by rw [e _ _ (by omega)]; exact r2, by rw [e _ _ (by omega)]; exact r3, by rw [e _ _ (by omega)]; exact r4, by rw [e _ _ (by omega)]; exact r5⟩, r6, r8, s1, fun k z0 z1 => ?_, fun k z0 z1 => ?_, fun k z0 z1 => ?_⟩
  · rw [fF_pf]
    unfold upT
    by_cases q : k = n1
    · rw [if_pos ⟨rfl, q⟩, if_pos q]
      exact SumF.pf (by omega) _ hv
    · rw [if_neg (fun z => q z.2), if_neg q]
      exact SumF.pf (by omega) _ (s3 k z0 (by omega))
  · rw [e _ _ (by omega)]; exact SumF.pf (by omega) _ (s4 k z0 z1)
  · rw [e _ _ (by omega)]; exact SumF.pf (by omega) _ (s5 k z0 z1)
theorem LwX.p2 {v : Int} {t : Tau} (r : LwX L l i n1 n2 n3 tl tt te) (hv : SumF 420 L (l + 4) v t) : LwX (am_pf L (l + 2) n2 v) l i n1 (n2 + 1) n3 tl (upT tt n2 t) te := by
  obtain ⟨r1, ⟨r2, r3, r4, r5⟩, r6, r8, s1, s3, s4, s5⟩ := r
  have e : ∀ y j, y ≠ l + 2 → fF (am_pf L (l + 2) n2 v) y j = fF L y j := fun y j z => by rw [fF_pf, if_neg (fun q => z q.1)]
  refine ⟨r1, ⟨by rw [e _ _ (by omega)]; exact r2, by rw [e _ _ (by omega)]; exact r3, by rw [e _ _ (by omega)]; exact r4, by rw [e _ _ (by omega)]; exact r5⟩, r6, r8, s1, fun k z0 z1 => ?_, fun k z0 z1 => ?_, fun k z0 z1 => ?_⟩
  · rw [e _ _ (by omega)]; exact SumF.pf (by omega) _ (s3 k z0 z1)
  · rw [fF_pf]
    unfold upT
    by_cases q : k = n2
    · rw [if_pos ⟨rfl, q⟩, if_pos q]
      exact SumF.pf (by omega) _ hv
    · rw [if_neg (fun z => q z.2), if_neg q]
      exact SumF.pf (by omega) _ (s4 k z0 (by omega))
  · rw [e _ _ (by omega)]; exact SumF.pf (by omega) _ (s5 k z0 z1)
theorem LwX.p3 {v : Int} {t : Tau} (r : LwX L l i n1 n2 n3 tl tt te) (hv : SumF 420 L (l + 4) v t) : LwX (am_pf L (l + 3) n3 v) l i n1 n2 (n3 + 1) tl tt (upT te n3 t) := by
  obtain ⟨r1, ⟨r2, r3, r4, r5⟩, r6, r8, s1, s3, s4, s5⟩ := r
  have e : ∀ y j, y ≠ l + 3 → fF (am_pf L (l + 3) n3 v) y j = fF L y j := fun y j z => by rw [fF_pf, if_neg (fun q => z q.1)]
  refine ⟨r1, ⟨by rw [e _ _ (by omega)]; exact r2, by rw [e _ _ (by omega)]; exact r3, by rw [e _ _ (by omega)]; exact r4, by rw [e _ _ (by omega)]; exact r5⟩, r6, r8, s1, fun k z0 z1 => ?_, fun k z0 z1 => ?_, fun k z0 z1 => ?_⟩
  · rw [e _ _ (by omega)]; exact SumF.pf (by omega) _ (s3 k z0 z1)
  · rw [e _ _ (by omega)]; exact SumF.pf (by omega) _ (s4 k z0 z1)
  · rw [fF_pf]
    unfold upT
    by_cases q : k = n3
    · rw [if_pos ⟨rfl, q⟩, if_pos q]
      exact SumF.pf (by omega) _ hv
    · rw [if_neg (fun z => q z.2), if_neg q]
      exact SumF.pf (by omega) _ (s5 k z0 (by omega))
theorem LwX.pi {i' : Int} (r : LwX L l i n1 n2 n3 tl tt te) : LwX (am_pf L l 3 i') l i' n1 n2 n3 tl tt te := by
  obtain ⟨r1, ⟨r2, r3, r4, r5⟩, r6, r8, s1, s3, s4, s5⟩ := r
  have e : ∀ y j, (y ≠ l ∨ j ≠ 3) → fF (am_pf L l 3 i') y j = fF L y j := fun y j z => by rw [fF_pf, if_neg (by omega)]
  refine ⟨r1, ⟨by rw [e _ _ (by omega)]; exact r2, by rw [e _ _ (by omega)]; exact r3, by rw [e _ _ (by omega)]; exact r4, by rw [fF_pf, if_pos ⟨rfl, rfl⟩]⟩, r6, r8, s1, fun k z0 z1 => ?_, fun k z0 z1 => ?_, fun k z0 z1 => ?_⟩
  · rw [e _ _ (by omega)]; exact SumF.pf (by omega) _ (s3 k z0 z1)
  · rw [e _ _ (by omega)]; exact SumF.pf (by omega) _ (s4 k z0 z1)
  · rw [e _ _ (by omega)]; exact SumF.pf (by omega) _ (s5 k z0 z1)
theorem LwX.at (r : LwX L l i i i (i + 1) tl tt te) (hi : 0 ≤ i ∧ i ≤ 4) : LawAt L l (lamOf i tl tt te) := by
  obtain ⟨r1, ⟨r2, r3, r4, r5⟩, r6, r8, s1, s3, s4, s5⟩ := r
  exact ⟨r1, i, tl, tt, te, l + 1, l + 2, l + 3, r2, r3, r4, r5, hi, r6.1, r6.2, r8.1, r8.2, s1.1, s1.2, fun k z0 z1 => ⟨(s3 k z0 z1).n, (s4 k z0 z1).n⟩, fun k z0 z1 => (s5 k z0 (by omega)).n, rfl⟩
theorem C_X15_init (hk : kd L l = 15) (hnx : nx L = l + 1) (h200 : 200 ≤ l) (hz : ∀ j, fF L l j = 0) (k : ∀ L', LwX L' l 0 0 0 0 t0T t0T t0T → nx L' = l + 4 → us L' = us L + 13 → LB L L' l → Q (.inl []) L' h) : am_C G mX15_init (d + 1) [aR l] L h Q := by
  refine x_start okX15_init rfl rfl rfl rfl ?_
  refine x_aload_0 dX15_init_0 ?_
  refine x_objInit dX15_init_1 q1088 q158 q159 (by omega) rfl ?_
  refine x_aload_0 dX15_init_4 ?_
  refine x_iconst dX15_init_5 ?_
  refine x_newA (k := 115) dX15_init_6 (by decide) (by decide) rfl q1089 q1090 (by first | omega | (simp only [nx_pf, nx_al, hnx]; omega)) (fun z6 => ?_)
  refine x_putCR dX15_init_9 fl1091_15 rfl trivial rfl rfl (by first | assumption | (simp only [kd_pf, kd_al, nx_pf, nx_al, hnx, true_and, and_true]; (repeat (first | rw [if_neg (by omega)] | rw [if_pos (by omega)] | rw [if_pos trivial])); first | done | assumption | rfl)) (by first | omega | (simp only [nx_pf, nx_al, hnx]; omega)) ?_
  refine x_aload_0 dX15_init_12 ?_
  refine x_iconst dX15_init_13 ?_
  refine x_newA (k := 115) dX15_init_14 (by decide) (by decide) rfl q1089 q1090 (by first | omega | (simp only [nx_pf, nx_al, hnx]; omega)) (fun z14 => ?_)
  refine x_putCR dX15_init_17 fl1093_15 rfl trivial rfl rfl (by first | assumption | (simp only [kd_pf, kd_al, nx_pf, nx_al, hnx, true_and, and_true]; (repeat (first | rw [if_neg (by omega)] | rw [if_pos (by omega)] | rw [if_pos trivial])); first | done | assumption | rfl)) (by first | omega | (simp only [nx_pf, nx_al, hnx]; omega)) ?_
  refine x_aload_0 dX15_init_20 ?_
  refine x_iconst dX15_init_21 ?_
  refine x_newA (k := 115) dX15_init_22 (by decide) (by decide) rfl q1089 q1090 (by first | omega | (simp only [nx_pf, nx_al, hnx]; omega)) (fun z22 => ?_)
  refine x_putCR dX15_init_25 fl1095_15 rfl trivial rfl rfl (by first | assumption | (simp only [kd_pf, kd_al, nx_pf, nx_al, hnx, true_and, and_true]; (repeat (first | rw [if_neg (by omega)] | rw [if_pos (by omega)] | rw [if_pos trivial])); first | done | assumption | rfl)) (by first | omega | (simp only [nx_pf, nx_al, hnx]; omega)) ?_
  refine x_ret dX15_init_28 rfl ?_
  refine k _ ⟨?_, ⟨?_, ?_, ?_, ?_⟩, ⟨?_, ?_⟩, ⟨?_, ?_⟩, ⟨?_, ?_⟩, fun k z0 z1 => by omega, fun k z0 z1 => by omega, fun k z0 z1 => by omega⟩ ?_ ?_ ?_
  all_goals try simp only [kd_pf, kd_al, ln_pf, ln_al, fF_pf, fF_al, nx_pf, nx_al, us_pf, us_al, hnx]
  all_goals try (repeat (first | rw [if_neg (by omega)] | rw [if_pos (by omega)] | rw [if_pos trivial] | rw [if_pos (by exact ⟨trivial, by omega⟩)] | rw [if_pos (by exact ⟨trivial, trivial⟩)] | rw [if_pos (by exact ⟨by omega, trivial⟩)]))
  all_goals first | done | assumption | omega | exact hz _ | skip
  repeat (first | exact LB.rf L l | refine LB.pf ?_ (by simp only [nx_pf, nx_al, hnx]; omega) | refine LB.pf ?_ (by omega) | refine LB.al ?_ (by simp only [nx_pf, nx_al, hnx]; omega))
theorem C_X3_begins {m q : Int} (hR : RdX L h x b D N) (hat : h (x + 9) 3 = a) (ha : inN N a) (hm : rg32 m) (hq : rg32 q) (k0 : m = q → Q (.inr (x + 1)) L (fltH h x 2 (sP b D a))) (k1 : m ≠ q → a < 400 → Q (.inl []) L (am_st h (x + 9) 3 (a + 1))) (k2 : m ≠ q → 400 ≤ a → Q (.inr (x + 1)) L (fltH h x 2 (sP b D a))) : am_C G mX3_begins (d + 5) [aR (x + 9), aI m, aI q] L h Q := by
  have hK := hR.mk
  obtain ⟨hm1, hm2⟩ := hm
  obtain ⟨hq1, hq2⟩ := hq
  refine x_start okX3_begins rfl rfl rfl rfl ?_
  refine x_iload_1 dX3_begins_0 ?_
  refine x_iload_2 dX3_begins_1 ?_
  refine x_icmp_ne (tgt := 11) dX3_begins_2 rfl (by first | omega | (simp only [nx_pf, nx_al, hnx]; omega)) (by first | omega | (simp only [nx_pf, nx_al, hnx]; omega)) (fun c2 => ?_) (fun c2 => ?_)
  · refine x_aload_0 dX3_begins_11 ?_
    refine x_callV0 dX3_begins_12 rfl okX3_pass q764 q766 qs13 (by first | first | assumption | (simp only [kd_pf, kd_al, nx_pf, nx_al, hnx, true_and, and_true]; (repeat (first | rw [if_neg (by omega)] | rw [if_pos (by omega)] | rw [if_pos trivial])); first | done | assumption | rfl) | (exact MkL.k_parser (by assumption))) am_k3 rfl (C_X3_pass hR hat ha (fun z => (x_k0 ?_)) (fun z => x_kx ⟨hK.k_fault, k2 (by omega) z⟩))
    refine x_ret dX3_begins_15 rfl ?_
    exact k1 (by omega) z
  · refine x_aload_0 dX3_begins_5 ?_
    refine x_iconst dX3_begins_6 ?_
    refine x_callV1 dX3_begins_7 rfl okX3_wrong q748 q750 qs10 (by first | first | assumption | (simp only [kd_pf, kd_al, nx_pf, nx_al, hnx, true_and, and_true]; (repeat (first | rw [if_neg (by omega)] | rw [if_pos (by omega)] | rw [if_pos trivial])); first | done | assumption | rfl) | (exact MkL.k_parser (by assumption))) am_k3 rfl (C_X3_wrong hR hat ha.1 (by decide) (x_k1 ?_))
    refine x_athrow dX3_begins_10 rfl (by exact hK.k_fault) ?_
    exact k0 (by omega)
end XLAW
