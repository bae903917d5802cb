/-! THREADTOWN'S CONSTRUCTOR -/
set_option maxRecDepth 100000
section XINIT12
variable {G : am_G} {L : am_L} {h : am_H} {x : Int} {d : Nat} {Q : am_O → am_L → am_H → Prop}
set_option maxHeartbeats 1000000 in
theorem X0i_f {Lm : am_L} (hM : MkL Lm x) (hT : TxL Lm (x + 10) T0) (ht : h x 3 = x + 10) (k : ∀ h', RC Lm h' (x + 17) T0 (begR T0) → FrC h h' (x + 17) → Q (.inl []) Lm h') : am_X G mX0_init (d + 440) 305 [aR x, aI 30] [] Lm h Q := by
  have hc := hM.cloth
  refine x_aload_0 dX0_init_305 ?_
  refine x_getR dX0_init_306 fl578_0 rfl (by first | (exact MkL.k0 (by assumption)) | (assumption)) (by first | (exact MkL.v_cloth (by assumption)) | (assumption)) ?_
  refine x_aload_0 dX0_init_309 ?_
  refine x_getW dX0_init_310 fl574_0 rfl (by first | (exact MkL.k0 (by assumption)) | (assumption)) (by assumption) ?_
  refine x_callV1 dX0_init_313 rfl okX5_begins q521 q522 q523 (by first | assumption | (exact ClL.k0 (by assumption))) am_k5 rfl (C_X5_begins (d := d + 16) hc T0I hT (fun h' r f => (x_k0 ?_)))
  refine x_ret dX0_init_316 rfl ?_
  exact k _ r f
theorem LX.six {La Lg Li Lj Lk Ll : am_L} (rg : LX La Lg (x + 80) 10 x) (ri : LX Lg Li (x + 174) 11 x) (rj : LX Li Lj (x + 180) 12 x) (rk : LX Lj Lk (x + 183) 15 x) (rl : LX Lk Ll (x + 271) 21 x) : LX Lj Ll (x + 183) 15 x ∧ LX Li Ll (x + 180) 12 x ∧ LX Lg Ll (x + 174) 11 x ∧ LX La Ll (x + 80) 10 x := by
  have vj : LX Lj Ll (x + 183) 15 x := rk.tr rl (by omega) (by omega)
  have vi : LX Li Ll (x + 180) 12 x := rj.tr vj (by omega) (by omega)
  have vg : LX Lg Ll (x + 174) 11 x := ri.tr vi (by omega) (by omega)
  exact ⟨vj, vi, vg, rg.tr vg (by omega) (by omega)⟩
theorem LX.thr {L0 L3 L5 La Ll : am_L} (r3 : LX L0 L3 (x + 1) 0 x) (r5 : LX L3 L5 (x + 9) 2 x) (ra : LX L5 La (x + 17) 7 x) (va : LX La Ll (x + 80) 10 x) : LX L5 Ll (x + 17) 7 x ∧ LX L3 Ll (x + 9) 2 x ∧ LX L0 Ll (x + 1) 0 x := by
  have v5 : LX L5 Ll (x + 17) 7 x := ra.tr va (by omega) (by omega)
  have v3 : LX L3 Ll (x + 9) 2 x := r5.tr v5 (by omega) (by omega)
  exact ⟨v5, v3, r3.tr v3 (by omega) (by omega)⟩
theorem LX.lst {L0 Ll Lm : am_L} (v0 : LX L0 Ll (x + 1) 0 x) (rm : LX Ll Lm (x + 275) 0 (x + 79)) : LB L0 Lm x := fun a ha => ⟨(rm.1 a (by omega) (by omega)).1.trans (v0.1 a (by omega) (by omega)).1, (rm.1 a (by omega) (by omega)).2.1.trans (v0.1 a (by omega) (by omega)).2.1, fun j => ((rm.1 a (by omega) (by omega)).2.2 j).trans ((v0.1 a (by omega) (by omega)).2.2 j)⟩
theorem LX.pst {La Ll : am_L} (va : LX La Ll (x + 80) 10 x) (fa : ClL La (x + 17) ∧ fF La x 7 = x + 17 ∧ ClL La (x + 48) ∧ fF La x 8 = x + 48 ∧ kd La (x + 79) = 113 ∧ ln La (x + 79) = 30 ∧ fF La x 9 = x + 79) : kd Ll (x + 79) = 113 ∧ ln Ll (x + 79) = 30 ∧ fF Ll x 9 = x + 79 := ⟨(va.1 (x + 79) (by omega) (by omega)).1.trans fa.2.2.2.2.1, (va.1 (x + 79) (by omega) (by omega)).2.1.trans fa.2.2.2.2.2.1, (va.2.2.2 9 (by omega)).trans fa.2.2.2.2.2.2⟩
theorem CoI.zero {Lm : am_L} {h1 h' : am_H} (hM : MkL Lm x) (hT : TxL Lm (x + 10) T0) (r : RC Lm h' (x + 17) T0 (begR T0)) (f : FrC (am_st (am_st h1 x 3 (x + 10)) x 4 (-1)) h' (x + 17)) (q1 : ∀ a j, a ≠ x + 1 → h1 a j = h a j) (hzz : ∀ a j, x ≤ a → h a j = 0) : CoI Lm h' x (x + 10) g0 ∧ ∀ a, a < x → h' a = h a := by
  have g1 : ∀ a j, (a < x + 17 ∨ x + 48 ≤ a) → a ≠ x + 1 → (a = x → j ≠ 3 ∧ j ≠ 4) → h' a j = h a j := fun a j z1 z2 z3 => by
    rw [f a (by omega), am_st_at, if_neg (by omega), am_st_at, if_neg (by omega), q1 a j z2]
  have g2 : ∀ a j, (x ≤ a) → (a < x + 17 ∨ x + 48 ≤ a) → a ≠ x + 1 → (a = x → j ≠ 3 ∧ j ≠ 4) → h' a j = 0 := fun a j z0 z1 z2 z3 => (g1 a j z1 z2 z3).trans (hzz a j z0)
  refine ⟨⟨⟨hM, ?_, hT, r⟩, ⟨g2 x 5 (by omega) (by omega) (by omega) (by omega), ?_, fun j z0 z1 => ?_⟩, fun i z0 z1 => Or.inl ⟨rfl, g2 _ _ (by omega) (by omega) (by omega) (by omega)⟩, ⟨g2 x 20 (by omega) (by omega) (by omega) (by omega), fun i z0 z1 => ?_⟩, ⟨g2 _ _ (by omega) (by omega) (by omega) (by omega), fun i z0 z1 => ?_⟩, ?_⟩, fun a ha => by funext j; exact g1 a j (by omega) (by omega) (by omega)⟩
  · rw [f x (by omega), am_st_at, if_neg (by omega), am_st_at, if_pos ⟨rfl, rfl⟩]
  · rw [g2 x 6 (by omega) (by omega) (by omega) (by omega)]
    decide
  · have e : gN g0 = 0 := rfl
    omega
  · have e : gK g0 = 0 := rfl
    omega
  · have e : gD g0 = 0 := rfl
    omega
  · rw [f x (by omega), am_st_at, if_pos ⟨rfl, rfl⟩]
    rfl
/-- ThreadTown is made: it tells g0 -/
theorem C_X0_init (hk : kd L x = 0) (hnx : nx L = x + 1) (h200 : 200 ≤ x) (hz : ∀ j, h x j = 0) (hs : ∀ w : Int, 11 ≤ w → w < 28 → kd L w = 21) (hd1 : kd L 1 = 116 ∧ 0 ≤ ln L 1) (k : ∀ L' h' U', CoI L' h' x (x + 10) g0 → TkN L' (x + 2) → LB L L' x → nx L' = x + 1205 → us L' = U' → U' = us L + 61425 → (∀ a, a < x → h' a = h a) → Q (.inl []) L' h') : am_C G mX0_init (d + 440) [aR x] L h Q := by
  intro wf
  have hzz : ∀ a j, x ≤ a → h a j = 0 := fun a j ha => by
    rcases Int.lt_or_le x a with q | q
    · exact (wf.2.2.1 a j (by omega)).1
    · rw [show a = x by omega]
      exact hz j
  refine (X0i_1 hk hnx h200 hs (fun L3 h1 n3 u3 k3 f3 r3 q1 => ?_)) wf
  refine X0i_2 h200 n3 u3 k3 f3.2.1 f3.2.2.2 (fun L5 n5 u5 k5 f5 r5 => ?_)
  refine X0i_3 h200 n5 u5 k5 (fun La na ua ka fa ra => ?_)
  refine X0i_b h200 na ua ka (fun Lg ng ug kg fg rg sg => ?_)
  refine X0i_c h200 ng ug kg (fun Li ni ui ki fi ri => ?_)
  refine X0i_d1 h200 ni ui ki (fun Lj nj uj kj fj rj => ?_)
  refine X0i_d2 h200 nj uj kj (fun Lk nk uk kk fk rk => ?_)
  refine X0i_d3 h200 nk uk kk (fun Ll nl ul kl fl rl => ?_)
  obtain ⟨vj, vi, vg, va⟩ := LX.six rg ri rj rk rl
  obtain ⟨v5, v3, v0⟩ := LX.thr r3 r5 ra va
  obtain ⟨a0, l0, p0⟩ := LX.pst va fa
  refine X0i_e h200 nl ul kl a0 l0 p0 (fun Lm nm um sm rm => ?_)
  obtain ⟨hM, tk, tx⟩ := MkL.of kl f3 f5 fa fg sg fi fj fk fl v3 v5 va vg vi vj rl sm rm
  have lb : LB L Lm x := LX.lst v0 rm
  have h1x : (1 : Int) < x := Int.lt_of_lt_of_le (by decide) h200
  have hT : TxL Lm (x + 10) T0 := tx.t0 ⟨(lb 1 h1x).1.trans hd1.1, by rw [(lb 1 h1x).2.1]; exact hd1.2⟩
  refine X0i_f hM hT (by rw [am_st_at, if_neg (fun q => absurd q.2 (by decide)), am_st_at, if_pos ⟨rfl, rfl⟩]) (fun h' r f => ?_)
  obtain ⟨c1, c2⟩ := CoI.zero hM hT r f q1 hzz
  exact k Lm h' _ c1 tk lb nm um (by simp only [Int.add_assoc]; rfl) c2
end XINIT12
