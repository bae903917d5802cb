/-! THREADTOWN'S CONSTRUCTOR, whole -/
set_option maxRecDepth 100000
section XINIT11
variable {G : am_G} {L : am_L} {h : am_H} {x : Int} {d : Nat} {Q : am_O → am_L → am_H → Prop}
theorem MkL.of {L3 L5 La Lg Li Lj Lk Ll Lm : am_L} (kx : kd Ll x = 0) (f3 : kd L3 (x + 1) = 1 ∧ fF L3 x 0 = x + 1 ∧ TkN L3 (x + 2) ∧ fF L3 x 1 = x + 2)
    (f5 : (kd L5 (x + 9) = 3 ∧ fF L5 (x + 9) 0 = x + 2 ∧ fF L5 (x + 9) 1 = x + 1) ∧ fF L5 x 2 = x + 9 ∧ TxN L5 (x + 10))
    (fa : ClL La (x + 17) ∧ fF La x 7 = x + 17 ∧ ClL La (x + 48) ∧ fF La x 8 = x + 48 ∧ kd La (x + 79) = 113 ∧ ln La (x + 79) = 30 ∧ fF La x 9 = x + 79)
    (fg : fF Lg x 10 = x + 80) (sg : Sl Lg (x + 80) 3 (x + 81) 3) (fi : DkN Li (x + 174) ∧ fF Li x 11 = x + 174)
    (fj : (kd Lj (x + 180) = 103 ∧ ln Lj (x + 180) = 3 ∧ fF Lj x 12 = x + 180) ∧ (kd Lj (x + 181) = 100 ∧ ln Lj (x + 181) = 7 ∧ fF Lj x 13 = x + 181) ∧ (kd Lj (x + 182) = 100 ∧ ln Lj (x + 182) = 128 ∧ fF Lj x 14 = x + 182))
    (fk : (LfN Lk x ∧ fF Lk x 15 = x + 183) ∧ (kd Lk (x + 248) = 100 ∧ ln Lk (x + 248) = 7 ∧ fF Lk x 16 = x + 248) ∧ (LiN Lk x ∧ fF Lk x 19 = x + 249))
    (fl : (kd Ll (x + 271) = 100 ∧ ln Ll (x + 271) = 12 ∧ fF Ll x 21 = x + 271) ∧ (kd Ll (x + 272) = 100 ∧ ln Ll (x + 272) = 12 ∧ fF Ll x 22 = x + 272) ∧ (kd Ll (x + 273) = 100 ∧ ln Ll (x + 273) = 7 ∧ fF Ll x 23 = x + 273) ∧ (kd Ll (x + 274) = 103 ∧ ln Ll (x + 274) = 12 ∧ fF Ll x 24 = x + 274))
    (v3 : LX L3 Ll (x + 9) 2 x) (v5 : LX L5 Ll (x + 17) 7 x) (va : LX La Ll (x + 80) 10 x) (vg : LX Lg Ll (x + 174) 11 x) (vi : LX Li Ll (x + 180) 12 x) (vj : LX Lj Ll (x + 183) 15 x) (vk : LX Lk Ll (x + 271) 21 x) (sm : Sl Lm (x + 79) 30 (x + 275) 30) (rm : LX Ll Lm (x + 275) 0 (x + 79)) : MkL Lm x ∧ TkN Lm (x + 2) ∧ TxN Lm (x + 10) := by
  have px : ∀ j, fF Lm x j = fF Ll x j := (rm.1 x (by omega) (by omega)).2.2
  have pk : ∀ i, 0 ≤ i → i < 275 → i ≠ 79 → kd Lm (x + i) = kd Ll (x + i) := fun i z0 z1 z2 => (rm.1 (x + i) (by omega) (by omega)).1
  have pn : ∀ i, 0 ≤ i → i < 275 → i ≠ 79 → ln Lm (x + i) = ln Ll (x + i) := fun i z0 z1 z2 => (rm.1 (x + i) (by omega) (by omega)).2.1
  have tk : TkN Lm (x + 2) := (f3.2.2.1.lx v3 (by omega) (by omega)).lx rm (by omega) (by omega)
  have tx : TxN Lm (x + 10) := (f5.2.2.lx v5 (by omega) (by omega)).lx rm (by omega) (by omega)
  have dk : DkN Lm (x + 174) := (fi.1.lx vi (by omega) (by omega)).lx rm (by omega) (by omega)
  have lf : LfN Lm x := (fk.1.1.lx vk (by omega) (by omega)).lx rm (by omega) (by omega)
  have li : LiN Lm x := (fk.2.2.1.lx vk (by omega) (by omega)).lx rm (by omega) (by omega)
  have s3 : Sl Lm (x + 80) 3 (x + 81) 3 := by
    have s := sg.lx vg (by omega) (by omega) (by omega) (by omega)
    exact ⟨(pk 80 (by omega) (by omega) (by omega)).trans s.1, (pn 80 (by omega) (by omega) (by omega)).trans s.2.1, fun k z0 z1 => ⟨((rm.1 (x + 80) (by omega) (by omega)).2.2 k).trans (s.2.2 k z0 z1).1, (s.2.2 k z0 z1).2.lx rm (by omega) (by omega)⟩⟩
  have p9 := v5.1 (x + 9) (by omega) (by omega)
  have m9 := rm.1 (x + 9) (by omega) (by omega)
  have c17 : ClL Lm (x + 17) := (fa.1.lx va (by omega) (by omega)).lx rm (by omega) (by omega)
  have c48 : ClL Lm (x + 48) := (fa.2.2.1.lx va (by omega) (by omega)).lx rm (by omega) (by omega)
  obtain ⟨t1, t2, t3, t4, t5, t6, t7, t8, t9, t10, t11, t12, t13, t14, t15, t16, t17, t18, t19, -⟩ := tk
  have tk : TkN Lm (x + 2) := (f3.2.2.1.lx v3 (by omega) (by omega)).lx rm (by omega) (by omega)
  obtain ⟨d1, d2, d3, d4, d5, d6, d7, d8, d9, d10, d11, d12⟩ := dk
  rw [show x + 2 + 1 = x + 3 by omega] at t2 t8 t9
  rw [show x + 2 + 2 = x + 4 by omega] at t3 t10 t11
  rw [show x + 2 + 3 = x + 5 by omega] at t4 t12 t13
  rw [show x + 2 + 4 = x + 6 by omega] at t5 t14 t15
  rw [show x + 2 + 5 = x + 7 by omega] at t6 t16 t17
  rw [show x + 2 + 6 = x + 8 by omega] at t7 t18 t19
  rw [show x + 174 + 1 = x + 175 by omega] at d3 d8
  rw [show x + 174 + 2 = x + 176 by omega] at d4 d9
  rw [show x + 174 + 3 = x + 177 by omega] at d5 d10
  rw [show x + 174 + 4 = x + 178 by omega] at d6 d11
  rw [show x + 174 + 5 = x + 179 by omega] at d7 d12
  refine ⟨⟨(rm.1 x (by omega) (by omega)).1.trans kx, (px 0).trans ((v3.2.2.2 0 (by omega)).trans f3.2.1), (pk 1 (by omega) (by omega) (by omega)).trans ((v3.1 (x + 1) (by omega) (by omega)).1.trans f3.1), (px 1).trans ((v3.2.2.2 1 (by omega)).trans f3.2.2.2), t1, (px 2).trans ((v5.2.2.2 2 (by omega)).trans f5.2.1), m9.1.trans (p9.1.trans f5.1.1),
    (px 7).trans ((va.2.2.2 7 (by omega)).trans fa.2.1), (px 8).trans ((va.2.2.2 8 (by omega)).trans fa.2.2.2.1), (px 9).trans ((va.2.2.2 9 (by omega)).trans fa.2.2.2.2.2.2), sm.1, sm.2.1, (px 10).trans ((vg.2.2.2 10 (by omega)).trans fg), s3.1, s3.2.1, (px 11).trans ((vi.2.2.2 11 (by omega)).trans fi.2), d1, d2,
    (px 12).trans ((vj.2.2.2 12 (by omega)).trans fj.1.2.2), (pk 180 (by omega) (by omega) (by omega)).trans ((vj.1 _ (by omega) (by omega)).1.trans fj.1.1), (pn 180 (by omega) (by omega) (by omega)).trans ((vj.1 _ (by omega) (by omega)).2.1.trans fj.1.2.1),
    (px 13).trans ((vj.2.2.2 13 (by omega)).trans fj.2.1.2.2), (pk 181 (by omega) (by omega) (by omega)).trans ((vj.1 _ (by omega) (by omega)).1.trans fj.2.1.1), (pn 181 (by omega) (by omega) (by omega)).trans ((vj.1 _ (by omega) (by omega)).2.1.trans fj.2.1.2.1),
    (px 14).trans ((vj.2.2.2 14 (by omega)).trans fj.2.2.2.2), (pk 182 (by omega) (by omega) (by omega)).trans ((vj.1 _ (by omega) (by omega)).1.trans fj.2.2.1), (pn 182 (by omega) (by omega) (by omega)).trans ((vj.1 _ (by omega) (by omega)).2.1.trans fj.2.2.2.1),
    (px 15).trans ((vk.2.2.2 15 (by omega)).trans fk.1.2), lf.1, lf.2.1, (px 16).trans ((vk.2.2.2 16 (by omega)).trans fk.2.1.2.2), (pk 248 (by omega) (by omega) (by omega)).trans ((vk.1 _ (by omega) (by omega)).1.trans fk.2.1.1), (pn 248 (by omega) (by omega) (by omega)).trans ((vk.1 _ (by omega) (by omega)).2.1.trans fk.2.1.2.1),
    (px 19).trans ((vk.2.2.2 19 (by omega)).trans fk.2.2.2), li.1, li.2.1, (px 21).trans fl.1.2.2, (pk 271 (by omega) (by omega) (by omega)).trans fl.1.1, (pn 271 (by omega) (by omega) (by omega)).trans fl.1.2.1, (px 22).trans fl.2.1.2.2, (pk 272 (by omega) (by omega) (by omega)).trans fl.2.1.1, (pn 272 (by omega) (by omega) (by omega)).trans fl.2.1.2.1,
    (px 23).trans fl.2.2.1.2.2, (pk 273 (by omega) (by omega) (by omega)).trans fl.2.2.1.1, (pn 273 (by omega) (by omega) (by omega)).trans fl.2.2.1.2.1, (px 24).trans fl.2.2.2.2.2, (pk 274 (by omega) (by omega) (by omega)).trans fl.2.2.2.1, (pn 274 (by omega) (by omega) (by omega)).trans fl.2.2.2.2.1,
    t2, t8, t9, t3, t10, t11, t4, t12, t13, t5, t14, t15, t6, t16, t17, t7, t18, t19, (m9.2.2 0).trans ((p9.2.2 0).trans f5.1.2.1), (m9.2.2 1).trans ((p9.2.2 1).trans f5.1.2.2), c17, c48, sm.2.2, s3.2.2, fun k z0 z1 => ?_, d8, d9, d10, d11, d12, lf.2.2, li.2.2.1, li.2.2.2⟩, tk, tx⟩
  have hk : k = 0 ∨ k = 1 ∨ k = 2 ∨ k = 3 ∨ k = 4 := by omega
  rcases hk with rfl | rfl | rfl | rfl | rfl
  · rw [d3]; omega
  · rw [d4]; omega
  · rw [d5]; omega
  · rw [d6]; omega
  · rw [d7]; omega
end XINIT11
