/-! THE ROWS that read and write cells -/
set_option maxRecDepth 100000
def am_Cls (k : Nat) (C : String) (T : u_T) (N : Nat) : Prop := k < 99 ∧ am_cl[k]? = some (C, T, N) ∧ (∀ w ∈ u_ws C T N, w ∈ lw_all) ∧ (∀ j, j < N → parseFieldDescriptor (T j).2.2.1 = some (am_fty k j)) ∧ (∀ a, a < N → ∀ b, b < N → a ≠ b → (T a).2.1 ≠ (T b).2.1)
theorem am_k0 : am_Cls 0 RX0 TX0 25 := ⟨by decide, rfl, in_X0, tyX0_ok, nmX0⟩
theorem am_k1 : am_Cls 1 RX1 TX1 8 := ⟨by decide, rfl, in_X1, tyX1_ok, nmX1⟩
theorem am_k2 : am_Cls 2 RX2 TX2 8 := ⟨by decide, rfl, in_X2, tyX2_ok, nmX2⟩
theorem am_k3 : am_Cls 3 RX3 TX3 7 := ⟨by decide, rfl, in_X3, tyX3_ok, nmX3⟩
theorem am_k4 : am_Cls 4 RX4 TX4 12 := ⟨by decide, rfl, in_X4, tyX4_ok, nmX4⟩
theorem am_k5 : am_Cls 5 RX5 TX5 11 := ⟨by decide, rfl, in_X5, tyX5_ok, nmX5⟩
theorem am_k6 : am_Cls 6 RX6 TX6 2 := ⟨by decide, rfl, in_X6, tyX6_ok, nmX6⟩
theorem am_k7 : am_Cls 7 RX7 am_T0 0 := ⟨by decide, rfl, fun w h => by simp [u_ws] at h, fun j h => by omega, fun a h => by omega⟩
theorem am_k8 : am_Cls 8 RX8 am_T0 0 := ⟨by decide, rfl, fun w h => by simp [u_ws] at h, fun j h => by omega, fun a h => by omega⟩
theorem am_k9 : am_Cls 9 RX9 am_T0 0 := ⟨by decide, rfl, fun w h => by simp [u_ws] at h, fun j h => by omega, fun a h => by omega⟩
theorem am_k10 : am_Cls 10 RX10 am_T0 0 := ⟨by decide, rfl, fun w h => by simp [u_ws] at h, fun j h => by omega, fun a h => by omega⟩
theorem am_k11 : am_Cls 11 RX11 am_T0 0 := ⟨by decide, rfl, fun w h => by simp [u_ws] at h, fun j h => by omega, fun a h => by omega⟩
theorem am_k12 : am_Cls 12 RX12 am_T0 0 := ⟨by decide, rfl, fun w h => by simp [u_ws] at h, fun j h => by omega, fun a h => by omega⟩
theorem am_k13 : am_Cls 13 RX13 TX13 75 := ⟨by decide, rfl, in_X13, tyX13_ok, nmX13⟩
theorem am_k14 : am_Cls 14 RX14 TX14 8 := ⟨by decide, rfl, in_X14, tyX14_ok, nmX14⟩
theorem am_k15 : am_Cls 15 RX15 TX15 4 := ⟨by decide, rfl, in_X15, tyX15_ok, nmX15⟩
theorem am_k16 : am_Cls 16 RX16 am_T0 0 := ⟨by decide, rfl, fun w h => by simp [u_ws] at h, fun j h => by omega, fun a h => by omega⟩
theorem am_k17 : am_Cls 17 RX17 TX17 1 := ⟨by decide, rfl, in_X17, tyX17_ok, nmX17⟩
theorem am_k18 : am_Cls 18 RX18 TX18 1 := ⟨by decide, rfl, in_X18, tyX18_ok, nmX18⟩
theorem am_k19 : am_Cls 19 RX19 TX19 3 := ⟨by decide, rfl, in_X19, tyX19_ok, nmX19⟩
theorem am_k20 : am_Cls 20 RJ5 TJ5 3 := ⟨by decide, rfl, in_J5, tyJ5_ok, nmJ5⟩
theorem am_k21 : am_Cls 21 RJ9 TJ9 4 := ⟨by decide, rfl, in_J9, tyJ9_ok, nmJ9⟩
theorem am_k22 : am_Cls 22 RJ13 TJ13 4 := ⟨by decide, rfl, in_J13, tyJ13_ok, nmJ13⟩
/-- a field's link: the pool entry i of the class own names the field j of the class k, of type t, kept in the layout or not, final or not -/
def am_FL (own : String) (i k : Nat) (j : Int) (t : FieldType) (imm fin : Bool) : Prop := ∃ (C : String) (T : u_T) (N : Nat), am_Cls k C T N ∧ 0 ≤ j ∧ j.toNat < N ∧ Cond.fieldLink own i (T j.toNat).1 (T j.toNat).2.1 (T j.toNat).2.2.1 ∈ lw_all ∧ am_fty k j.toNat = t ∧ am_immf k j.toNat = imm ∧ (T j.toNat).2.2.2 = fin ∧ (t ≠ .float ∧ t ≠ .double)
section AMHEAP
variable {G : am_G} {M : am_M} {d pc : Nat} {ls st : List AV} {L : am_L} {h : am_H} {Q : am_O → am_L → am_H → Prop}
theorem am_FL.immE {own : String} {i k : Nat} {j a : Int} {t : FieldType} {imm fin : Bool} (hf : am_FL own i k j t imm fin) (hk : kd L a = k) : am_imm (kd L a) j = imm ∧ am_ty (kd L a) j = t ∧ kd L a ≠ 99 := by
  obtain ⟨C, T, N, ⟨hk99, -⟩, -, -, -, ht, him, -⟩ := hf
  have h1 : kd L a < 100 := by omega
  exact ⟨by unfold am_imm; rw [if_pos h1, hk]; exact him, by unfold am_ty; rw [if_pos h1, hk]; exact ht, by omega⟩
theorem x_getf {i k : Nat} {j a : Int} {t : FieldType} {imm fin : Bool} (hd : decode M.2.1 pc = .ok (.getfield i, 3)) (hf : am_FL M.1.cls i k j t imm fin) (hk : kd L a = k)
    (kk : am_X G M d (pc + 3) ls ((am_tg t, am_ct L h a j) :: st) L h Q) : am_X G M d pc ls (aR a :: st) L h Q := by
  obtain ⟨C, T, N, ⟨hk99, hc, hin, hty, hnm⟩, hj0, hj, hlink, ht, him, hfin, hfd⟩ := hf
  refine am_lift (fun p e R s m args below meth c S H locs cells slots lsR Qf hR hL w => ?_) kk
  obtain ⟨cell, q1, q2, q3, q4⟩ := hR.obj hk hk99 hc
  obtain ⟨hS, hfc, kC, hkC, hkind⟩ := S.2.2.2.2.2.2.2.2.1.1 k _ hc
  obtain ⟨cf, kf, fi, f, hi, hsl⟩ := hS j.toNat hj
  rw [List.map_cons, am_cvR G (hR.lo (by omega))]
  refine W.getf S.1 S.2.1 S.2.2.2.2.1 (S.2.2.2.2.2.1 _ hlink) hi (u_facts hfc hkC (u_lays S.2.2.2.2.2.1 hin hj) hi).1 q1 (by rw [q3]; exact fun z => by cases z) (v := am_cv G (am_tg t, am_ct L h a j)) ?_ rfl rfl hd w
  have h4 := q4 _ hj
  rw [hsl, h4]
  show some (am_val G (am_tg (am_fty k j.toNat)) (am_ct L h a ((j.toNat : Nat) : Int))) = _
  rw [ht, show ((j.toNat : Nat) : Int) = j by omega]
  rfl
/-- a written int field -/
theorem x_getI {i k : Nat} {j a : Int} {t : FieldType} {fin : Bool} (hd : decode M.2.1 pc = .ok (.getfield i, 3)) (hf : am_FL M.1.cls i k j t false fin) (htg : am_tg t = 0) (hk : kd L a = k)
    (kk : am_rg t (h a j) → am_X G M d (pc + 3) ls (aI (h a j) :: st) L h Q) : am_X G M d pc ls (aR a :: st) L h Q := by
  obtain ⟨e1, e2, -⟩ := hf.immE (L := L) hk
  have e3 : am_ct L h a j = h a j := by unfold am_ct; rw [if_neg (by rw [e1]; decide)]
  refine am_wf fun wf => x_getf hd hf hk ?_
  rw [htg, e3]
  exact kk (by have := wf.2.2.2 a j; rw [e2, e3] at this; exact this)
/-- an int field of the layout -/
theorem x_getK {i k : Nat} {j a v : Int} {t : FieldType} {fin : Bool} (hd : decode M.2.1 pc = .ok (.getfield i, 3)) (hf : am_FL M.1.cls i k j t true fin) (htg : am_tg t = 0) (hk : kd L a = k) (hv : fF L a j = v)
    (kk : am_rg t v → am_X G M d (pc + 3) ls (aI v :: st) L h Q) : am_X G M d pc ls (aR a :: st) L h Q := by
  obtain ⟨e1, e2, -⟩ := hf.immE (L := L) hk
  have e3 : am_ct L h a j = v := by unfold am_ct; rw [if_pos e1]; exact hv
  refine am_wf fun wf => x_getf hd hf hk ?_
  rw [htg, e3]
  exact kk (by have := wf.2.2.2 a j; rw [e2, e3] at this; exact this)
/-- a reference of the layout -/
theorem x_getR {i k : Nat} {j a v : Int} {t : FieldType} {fin : Bool} (hd : decode M.2.1 pc = .ok (.getfield i, 3)) (hf : am_FL M.1.cls i k j t true fin) (htg : am_tg t = 1) (hk : kd L a = k) (hv : fF L a j = v)
    (kk : am_X G M d (pc + 3) ls (aR v :: st) L h Q) : am_X G M d pc ls (aR a :: st) L h Q := by
  obtain ⟨e1, e2, -⟩ := hf.immE (L := L) hk
  have e3 : am_ct L h a j = v := by unfold am_ct; rw [if_pos e1]; exact hv
  refine x_getf hd hf hk ?_
  rw [htg, e3]
  exact kk
/-- a written reference -/
theorem x_getW {i k : Nat} {j a v : Int} {t : FieldType} {fin : Bool} (hd : decode M.2.1 pc = .ok (.getfield i, 3)) (hf : am_FL M.1.cls i k j t false fin) (htg : am_tg t = 1) (hk : kd L a = k) (hv : h a j = v)
    (kk : am_X G M d (pc + 3) ls (aR v :: st) L h Q) : am_X G M d pc ls (aR a :: st) L h Q := by
  obtain ⟨e1, e2, -⟩ := hf.immE (L := L) hk
  have e3 : am_ct L h a j = v := by unfold am_ct; rw [if_neg (by rw [e1]; decide)]; exact hv
  refine x_getf hd hf hk ?_
  rw [htg, e3]
  exact kk
theorem am_K0 {s : State} (h : am_KK G s) : va_K (G.2.2.2.1, G.2.2.2.2.1) am_cl [] s := ⟨h.1, fun k q hq => by simp at hq⟩
/-- the cell of an object with a field written -/
theorem am_put_ok {k : Nat} {j a v : Int} {t : FieldType} {L1 : am_L} {h1 : am_H} {H H' : Heap} (hR : am_Rel G L h H) {s : State} {args : Array Value} (hts : ∀ w ∈ lw_all, w.before args s = true) (hK : am_KK G s) {own : String} {i : Nat} {imm fin : Bool} (hf : am_FL own i k j t imm fin) (hk : kd L a = k)
    {cell : Cell} (hcell : H[am_ad G a]? = some cell) (e1 : H'[am_ad G a]? = some (cell.setSlot (G.2.2.2.2.1 k j.toNat) (am_val G (am_tg t) v))) (hk1 : kd L1 a = kd L a) (hl1 : ln L1 a = ln L a) (hc1 : ∀ i : Int, am_ct L1 h1 a i = if i = j then v else am_ct L h a i) : am_ok G L1 h1 a H' := by
  obtain ⟨C, T, N, ⟨hk99, hc, hin, hty, hnm⟩, hj0, hj, hlink, ht, him, hfin, hfd⟩ := hf
  have hap := va_apart (own := own) hts hin (am_fty k) hty hnm (am_K0 hK) hc
  obtain ⟨cell', q1, q2, q3, q4⟩ := hR.obj hk hk99 hc
  cases hcell.symm.trans q1
  refine Or.inl ⟨by rw [hk1, hk]; omega, (C, T, N), by rw [hk1, hk]; exact hc, ?_, ?_⟩
  · rw [hl1]
    rcases hR.at (a := a) (by omega) with ⟨-, q', h4, h5, -⟩ | ⟨h3, -⟩
    · rw [hk] at h4
      cases hc.symm.trans h4
      exact h5
    · omega
  · rw [hk1, hk]
    refine t_OB.to (V := updV (fun n => am_val G (am_tg (am_fty k n)) (am_ct L h a (n : Int))) j.toNat (am_val G (am_tg t) v)) ⟨_, e1, q2, q3, t_set q4 hap hj _⟩ (fun n hn => ?_)
    unfold updV
    by_cases e : n = j.toNat
    · subst e
      rw [if_pos rfl, hc1, if_pos (by omega), ht]
    · rw [if_neg e, hc1, if_neg (by omega)]
theorem x_putM {i k : Nat} {j a v : Int} {t : FieldType} (hd : decode M.2.1 pc = .ok (.putfield i, 3)) (hf : am_FL M.1.cls i k j t false false) (hk : kd L a = k) (hr : am_rg t v)
    (kk : am_X G M d (pc + 3) ls st L (am_st h a j v) Q) : am_X G M d pc ls ((am_tg t, v) :: aR a :: st) L h Q := by
  obtain ⟨m1, m2, m3⟩ := hf.immE (L := L) hk
  have hf' := hf
  obtain ⟨C, T, N, ⟨hk99, hc, hin, hty, hnm⟩, hj0, hj, hlink, ht, him, hfin, hfd⟩ := hf
  have hr' : am_rg (am_ty (kd L a) j) v := by rw [m2]; exact hr
  refine am_liftH (fun wf => wf.st m3 m1 hr') rfl rfl (fun p e R s m args below meth c S H locs cells slots lsR Qf hR hS0 hL w => ?_) kk
  obtain ⟨cell, q1, q2, q3, q4⟩ := hR.obj hk hk99 hc
  obtain ⟨hS, hfc, kC, hkC, hkind⟩ := S.2.2.2.2.2.2.2.2.1.1 k _ hc
  obtain ⟨cf, kf, fi, f, hi, hsl⟩ := hS j.toNat hj
  have hlay := S.2.2.2.2.2.1 _ (hin _ (u_in_lay hj))
  unfold u_lay at hlay
  rw [if_neg (by rw [hfin]; decide)] at hlay
  have hst := (u_facts hfc hkC (u_lays S.2.2.2.2.2.1 hin hj) hi).1
  have hnf := am_narrow G hr hfd
  have h6 := u_store hfc hkC hkind hlay hi (by rw [hty _ hj, ht]) hnf.1 hnf.2
  rw [List.map_cons, List.map_cons, am_cvR G (hR.lo m3)]
  refine W.putK S.1 S.2.1 (f := f) ⟨S.2.2.2.2.1, S.2.2.2.2.2.1 _ hlink, ⟨_, _, _, hi⟩, hst⟩ (by rw [q2]; exact h6) q1 q3 (by rw [hsl]; exact k2_hasslot (q4 _ hj)) rfl rfl hd fun H' e1 e2 e3 => ?_
  rw [hsl] at e1 ⊢
  refine w H' _ (hR.st m3 m1 hr' ?_ e2 e3) (hS0.put e2 e3 ?_)
  · exact am_put_ok hR S.2.2.2.2.2.1 S.2.2.2.2.2.2.2.2.1 hf' hk q1 e1 rfl rfl (fun n => by rw [am_ct_st m1]; simp)
  · show G.2.1 ≤ am_ad G a
    obtain ⟨-, b2, b3⟩ := hR.wf.2.1 a m3
    unfold am_ad
    rw [if_neg (fun q => by have := b3 q j; rw [m1] at this; cases this)]
    omega
theorem x_putI {i k : Nat} {j a v : Int} {t : FieldType} (hd : decode M.2.1 pc = .ok (.putfield i, 3)) (hf : am_FL M.1.cls i k j t false false) (htg : am_tg t = 0) (hk : kd L a = k) (hr : am_rg t v)
    (kk : am_X G M d (pc + 3) ls st L (am_st h a j v) Q) : am_X G M d pc ls (aI v :: aR a :: st) L h Q := by
  have := x_putM hd hf hk hr kk
  rw [htg] at this
  exact this
theorem x_putW {i k : Nat} {j a v : Int} {t : FieldType} (hd : decode M.2.1 pc = .ok (.putfield i, 3)) (hf : am_FL M.1.cls i k j t false false) (htg : am_tg t = 1) (hk : kd L a = k) (hr : am_rg t v)
    (kk : am_X G M d (pc + 3) ls st L (am_st h a j v) Q) : am_X G M d pc ls (aR v :: aR a :: st) L h Q := by
  have := x_putM hd hf hk hr kk
  rw [htg] at this
  exact this
theorem x_putF {i k : Nat} {j a v : Int} {t : FieldType} (hd : decode M.2.1 pc = .ok (.putfield i, 3)) (hf : am_FL M.1.cls i k j t true false) (hk : kd L a = k) (ha : 200 ≤ a) (hr : am_rg t v)
    (kk : am_X G M d (pc + 3) ls st (am_pf L a j v) h Q) : am_X G M d pc ls ((am_tg t, v) :: aR a :: st) L h Q := by
  obtain ⟨m1, m2, m3⟩ := hf.immE (L := L) hk
  have hf' := hf
  obtain ⟨C, T, N, ⟨hk99, hc, hin, hty, hnm⟩, hj0, hj, hlink, ht, him, hfin, hfd⟩ := hf
  have hr' : am_rg (am_ty (kd L a) j) v := by rw [m2]; exact hr
  refine am_liftH (fun wf => wf.pf m3 m1 hr') rfl rfl (fun p e R s m args below meth c S H locs cells slots lsR Qf hR hS0 hL w => ?_) kk
  obtain ⟨cell, q1, q2, q3, q4⟩ := hR.obj hk hk99 hc
  obtain ⟨hS, hfc, kC, hkC, hkind⟩ := S.2.2.2.2.2.2.2.2.1.1 k _ hc
  obtain ⟨cf, kf, fi, f, hi, hsl⟩ := hS j.toNat hj
  have hlay := S.2.2.2.2.2.1 _ (hin _ (u_in_lay hj))
  unfold u_lay at hlay
  rw [if_neg (by rw [hfin]; decide)] at hlay
  have hst := (u_facts hfc hkC (u_lays S.2.2.2.2.2.1 hin hj) hi).1
  have hnf := am_narrow G hr hfd
  have h6 := u_store hfc hkC hkind hlay hi (by rw [hty _ hj, ht]) hnf.1 hnf.2
  rw [List.map_cons, List.map_cons, am_cvR G (hR.lo m3)]
  refine W.putK S.1 S.2.1 (f := f) ⟨S.2.2.2.2.1, S.2.2.2.2.2.1 _ hlink, ⟨_, _, _, hi⟩, hst⟩ (by rw [q2]; exact h6) q1 q3 (by rw [hsl]; exact k2_hasslot (q4 _ hj)) rfl rfl hd fun H' e1 e2 e3 => ?_
  rw [hsl] at e1 ⊢
  refine w H' _ (hR.pf ha m3 m1 hr' ?_ e2 e3) (hS0.put e2 e3 ?_)
  · exact am_put_ok hR S.2.2.2.2.2.1 S.2.2.2.2.2.2.2.2.1 hf' hk q1 e1 rfl rfl (fun n => by rw [am_ct_pf m1]; simp)
  · show G.2.1 ≤ am_ad G a
    unfold am_ad
    rw [if_neg (by omega)]
    omega
theorem x_putC {i k : Nat} {j a v : Int} {t : FieldType} (hd : decode M.2.1 pc = .ok (.putfield i, 3)) (hf : am_FL M.1.cls i k j t true true) (hn : M.1.name = "<init>") (hdecl : am_cl[k]?.map (fun q => (q.2.1 j.toNat).1) = some M.1.cls) (hk : kd L a = k) (ha : 200 ≤ a) (hr : am_rg t v)
    (kk : am_X G M d (pc + 3) ls st (am_pf L a j v) h Q) : am_X G M d pc ls ((am_tg t, v) :: aR a :: st) L h Q := by
  obtain ⟨m1, m2, m3⟩ := hf.immE (L := L) hk
  have hf' := hf
  obtain ⟨C, T, N, ⟨hk99, hc, hin, hty, hnm⟩, hj0, hj, hlink, ht, him, hfin, hfd⟩ := hf
  have hr' : am_rg (am_ty (kd L a) j) v := by rw [m2]; exact hr
  refine am_liftH (fun wf => wf.pf m3 m1 hr') rfl rfl (fun p e R s m args below meth c S H locs cells slots lsR Qf hR hS0 hL w => ?_) kk
  obtain ⟨cell, q1, q2, q3, q4⟩ := hR.obj hk hk99 hc
  obtain ⟨hS, hfc, kC, hkC, hkind⟩ := S.2.2.2.2.2.2.2.2.1.1 k _ hc
  obtain ⟨cf, kf, fi, f, hi, hsl⟩ := hS j.toNat hj
  have hlay := S.2.2.2.2.2.1 _ (hin _ (u_in_lay hj))
  unfold u_lay at hlay
  rw [if_pos hfin] at hlay
  have hst := (u_facts hfc hkC (u_lays S.2.2.2.2.2.1 hin hj) hi).1
  have hnf := am_narrow G hr hfd
  have hcf : m.cls = cf := by
    obtain ⟨_, _, c', _, _, _, -, -, hf2, -, -, -, hown2, -⟩ := Cond.laysFinal_spec hlay
    have e1 : c' = cf := by have := hi.symm.trans hf2; simp at this; exact this.1.symm
    rw [hc] at hdecl
    rw [show (T j.toNat).1 = M.1.cls from Option.some.inj hdecl] at hown2
    rw [← e1]; exact Option.some.inj (S.2.2.2.2.1.symm.trans hown2)
  have h6 := u_fits hfc hkC hkind (Or.inr hlay) hi (by rw [hty _ hj, ht]) hnf.1 hnf.2
  rw [List.map_cons, List.map_cons, am_cvR G (hR.lo m3)]
  refine W.putFinK S.1 S.2.1 S.2.2.2.2.1 (S.2.2.2.2.2.1 _ hlink) hi hst hcf (S.2.2.2.2.2.2.2.2.2.2.1.trans hn) (by rw [q2]; exact h6) q1 q3 (by rw [hsl]; exact k2_hasslot (q4 _ hj)) rfl rfl hd fun H' e1 e2 e3 => ?_
  rw [hsl] at e1 ⊢
  refine w H' _ (hR.pf ha m3 m1 hr' ?_ e2 e3) (hS0.put e2 e3 ?_)
  · exact am_put_ok hR S.2.2.2.2.2.1 S.2.2.2.2.2.2.2.2.1 hf' hk q1 e1 rfl rfl (fun n => by rw [am_ct_pf m1]; simp)
  · show G.2.1 ≤ am_ad G a
    unfold am_ad
    rw [if_neg (by omega)]
    omega
/-! arrays -/
theorem am_isA {s : State} (hK : am_KK G s) {k : Nat} (h1 : 100 ≤ k) (h2 : k < 120) (n : Nat) (f : Nat → Value) : s.isArrayOf (arrV (G.2.2.2.2.2 k) n f) (am_aty k) := (hK.2.1 k h1 h2).1 n f
theorem am_inA {k : Nat} {a x : Int} {H : Heap} (hR : am_Rel G L h H) (hk : kd L a = k) (h1 : 100 ≤ k) (h2 : k < 120) (hx : 0 ≤ x ∧ x < ln L a) (f : Nat → Value) (cA : ClassId) : rg32 x ∧ ¬ (Int32.ofInt x < 0 ∨ (arrV cA (ln L a).toNat f).slots.size ≤ (Int32.ofInt x).toNatClampNeg) ∧ (arrV cA (ln L a).toNat f).slots[(Int32.ofInt x).toNatClampNeg]? = some (f x.toNat) := by
  have hb := (hR.arr hk h1 h2).2.1
  have hr : rg32 x := ⟨by omega, by omega⟩
  refine ⟨hr, ?_, ?_⟩
  · rw [arrV_size]
    exact am_inx hx hb
  · rw [am_clamp hr]
    exact arrV_read _ _ (by omega)
theorem am_ast_ok {k : Nat} {a x v : Int} {L1 : am_L} {h1 : am_H} {H H' : Heap} (hR : am_Rel G L h H) (hk : kd L a = k) (hk1 : 100 ≤ k) (hk2 : k < 120) (hx : 0 ≤ x) (e1 : H'[am_ad G a]? = some ((arrV (G.2.2.2.2.2 k) (ln L a).toNat (fun j => am_val G (am_tg (am_aty k)) (am_ct L h a (j : Int)))).setSlot x.toNat (am_val G (am_tg (am_aty k)) v)))
    (hkd : kd L1 a = kd L a) (hln : ln L1 a = ln L a) (hc1 : ∀ i : Int, am_ct L1 h1 a i = if i = x then v else am_ct L h a i) : am_ok G L1 h1 a H' := by
  obtain ⟨b1, b2, b3⟩ := hR.arr hk hk1 hk2
  refine Or.inr ⟨by rw [hkd, hk]; exact hk1, by rw [hkd, hk]; exact hk2, by rw [hln]; exact b1, by rw [hln]; exact b2, ?_⟩
  rw [e1, arrV_store, hkd, hln, hk]
  congr 2
  funext n
  unfold updV
  by_cases e : n = x.toNat
  · subst e
    rw [if_pos rfl, hc1, if_pos (by omega)]
  · rw [if_neg e, hc1, if_neg (by omega)]
theorem am_aimm {k : Nat} {a x : Int} (hk : kd L a = k) (h1 : 100 ≤ k) : am_imm (kd L a) x = decide (110 ≤ k) ∧ am_ty (kd L a) x = am_aty k := by
  unfold am_imm am_ty
  rw [if_neg (by omega), if_neg (by omega), hk]
  exact ⟨rfl, rfl⟩
theorem am_loA {a : Int} {k : Nat} {H : Heap} (hR : am_Rel G L h H) (hk : kd L a = k) (h1 : 100 ≤ k) (h2 : k < 110) : am_Fr G (am_ad G a) := by
  show G.2.1 ≤ am_ad G a
  obtain ⟨-, b2, b3⟩ := hR.wf.2.1 a (by omega)
  unfold am_ad
  rw [if_neg (fun q => by have := b3 q 0; rw [(am_aimm hk h1).1] at this; simp at this; omega)]
  omega
theorem x_alen {k : Nat} {a : Int} (hd : decode M.2.1 pc = .ok (.arraylength, 1)) (hk : kd L a = k) (h1 : 100 ≤ k) (h2 : k < 120) (kk : am_X G M d (pc + 1) ls (aI (ln L a) :: st) L h Q) : am_X G M d pc ls (aR a :: st) L h Q := by
  refine am_lift (fun p e R s m args below meth c S H locs cells slots lsR Qf hR hL w => ?_) kk
  obtain ⟨b1, b2, b3⟩ := hR.arr hk h1 h2
  rw [List.map_cons, am_cvR G (hR.lo (by omega))]
  refine W.alen (n := Int32.ofInt (ln L a)) S.1 S.2.1 b3 (am_isA S.2.2.2.2.2.2.2.2.1 h1 h2 _ _) ?_ rfl rfl hd w
  rw [arrV_size]
  show Int32.ofNat _ = _
  rw [show Int32.ofInt (ln L a) = Int32.ofInt (((ln L a).toNat : Nat) : Int) by rw [show (((ln L a).toNat : Nat) : Int) = ln L a by omega]]
  rfl

theorem x_iald {a x : Int} (hd : decode M.2.1 pc = .ok (.iaload, 1)) (hk : kd L a = 100) (hx : 0 ≤ x ∧ x < ln L a) (kk : am_rg (am_aty 100) (h a x) → am_X G M d (pc + 1) ls (aI (h a x) :: st) L h Q) : am_X G M d pc ls (aI x :: aR a :: st) L h Q := by
  obtain ⟨e1, e2⟩ := am_aimm (x := x) hk (by decide)
  have e3 : am_ct L h a x = h a x := by unfold am_ct; rw [if_neg (by rw [e1]; decide)]
  refine am_wf fun wf => am_lift (fun p e R s m args below meth c S H locs cells slots lsR Qf hR hL w => ?_) (kk (by have := wf.2.2.2 a x; rw [e2, e3] at this; exact this))
  obtain ⟨b1, b2, b3⟩ := hR.arr hk (by decide) (by decide)
  rw [List.map_cons, List.map_cons, am_cvR G (hR.lo (by omega))]
  obtain ⟨i1, i2, i3⟩ := am_inA hR hk (by decide) (by decide) hx (fun j => am_val G (am_tg (am_aty 100)) (am_ct L h a (j : Int))) (G.2.2.2.2.2 100)
  refine W.iald S.1 S.2.1 b3 (am_isA S.2.2.2.2.2.2.2.2.1 (by decide) (by decide) _ _) (fun q => by cases q) i2 i3 rfl rfl hd ?_
  rw [show ((x.toNat : Nat) : Int) = x by omega, e3]
  exact w
theorem x_sld {a x : Int} (hd : decode M.2.1 pc = .ok (.iaload, 1)) (hk : kd L a = 117) (hx : 0 ≤ x ∧ x < ln L a) (kk : am_rg (am_aty 117) (fF L a x) → am_X G M d (pc + 1) ls (aI (fF L a x) :: st) L h Q) : am_X G M d pc ls (aI x :: aR a :: st) L h Q := by
  obtain ⟨e1, e2⟩ := am_aimm (x := x) hk (by decide)
  have e3 : am_ct L h a x = fF L a x := by unfold am_ct; rw [if_pos (by rw [e1]; rfl)]
  refine am_wf fun wf => am_lift (fun p e R s m args below meth c S H locs cells slots lsR Qf hR hL w => ?_) (kk (by have := wf.2.2.2 a x; rw [e2, e3] at this; exact this))
  obtain ⟨b1, b2, b3⟩ := hR.arr hk (by decide) (by decide)
  rw [List.map_cons, List.map_cons, am_cvR G (hR.lo (by omega))]
  obtain ⟨i1, i2, i3⟩ := am_inA hR hk (by decide) (by decide) hx (fun j => am_val G (am_tg (am_aty 117)) (am_ct L h a (j : Int))) (G.2.2.2.2.2 117)
  refine W.iald S.1 S.2.1 b3 (am_isA S.2.2.2.2.2.2.2.2.1 (by decide) (by decide) _ _) (fun q => by cases q) i2 i3 rfl rfl hd ?_
  rw [show ((x.toNat : Nat) : Int) = x by omega, e3]
  exact w
theorem x_bald {a x : Int} (hd : decode M.2.1 pc = .ok (.baload, 1)) (hk : kd L a = 101) (hx : 0 ≤ x ∧ x < ln L a) (kk : am_rg (am_aty 101) (h a x) → am_X G M d (pc + 1) ls (aI (h a x) :: st) L h Q) : am_X G M d pc ls (aI x :: aR a :: st) L h Q := by
  obtain ⟨e1, e2⟩ := am_aimm (x := x) hk (by decide)
  have e3 : am_ct L h a x = h a x := by unfold am_ct; rw [if_neg (by rw [e1]; decide)]
  refine am_wf fun wf => am_lift (fun p e R s m args below meth c S H locs cells slots lsR Qf hR hL w => ?_) (kk (by have := wf.2.2.2 a x; rw [e2, e3] at this; exact this))
  obtain ⟨b1, b2, b3⟩ := hR.arr hk (by decide) (by decide)
  rw [List.map_cons, List.map_cons, am_cvR G (hR.lo (by omega))]
  obtain ⟨i1, i2, i3⟩ := am_inA hR hk (by decide) (by decide) hx (fun j => am_val G (am_tg (am_aty 101)) (am_ct L h a (j : Int))) (G.2.2.2.2.2 101)
  refine W.bald S.1 S.2.1 b3 (am_isA S.2.2.2.2.2.2.2.2.1 (by decide) (by decide) _ _) (fun q => by cases q) i2 i3 rfl rfl hd ?_
  rw [show ((x.toNat : Nat) : Int) = x by omega, e3]
  exact w
theorem x_baldK {a x : Int} (hd : decode M.2.1 pc = .ok (.baload, 1)) (hk : kd L a = 118) (hx : 0 ≤ x ∧ x < ln L a) (kk : am_rg (am_aty 118) (fF L a x) → am_X G M d (pc + 1) ls (aI (fF L a x) :: st) L h Q) : am_X G M d pc ls (aI x :: aR a :: st) L h Q := by
  obtain ⟨e1, e2⟩ := am_aimm (x := x) hk (by decide)
  have e3 : am_ct L h a x = fF L a x := by unfold am_ct; rw [if_pos (by rw [e1]; rfl)]
  refine am_wf fun wf => am_lift (fun p e R s m args below meth c S H locs cells slots lsR Qf hR hL w => ?_) (kk (by have := wf.2.2.2 a x; rw [e2, e3] at this; exact this))
  obtain ⟨b1, b2, b3⟩ := hR.arr hk (by decide) (by decide)
  rw [List.map_cons, List.map_cons, am_cvR G (hR.lo (by omega))]
  obtain ⟨i1, i2, i3⟩ := am_inA hR hk (by decide) (by decide) hx (fun j => am_val G (am_tg (am_aty 118)) (am_ct L h a (j : Int))) (G.2.2.2.2.2 118)
  refine W.bald S.1 S.2.1 b3 (am_isA S.2.2.2.2.2.2.2.2.1 (by decide) (by decide) _ _) (fun q => by cases q) i2 i3 rfl rfl hd ?_
  rw [show ((x.toNat : Nat) : Int) = x by omega, e3]
  exact w
theorem x_sald {a x : Int} (hd : decode M.2.1 pc = .ok (.saload, 1)) (hk : kd L a = 102) (hx : 0 ≤ x ∧ x < ln L a) (kk : am_rg (am_aty 102) (h a x) → am_X G M d (pc + 1) ls (aI (h a x) :: st) L h Q) : am_X G M d pc ls (aI x :: aR a :: st) L h Q := by
  obtain ⟨e1, e2⟩ := am_aimm (x := x) hk (by decide)
  have e3 : am_ct L h a x = h a x := by unfold am_ct; rw [if_neg (by rw [e1]; decide)]
  refine am_wf fun wf => am_lift (fun p e R s m args below meth c S H locs cells slots lsR Qf hR hL w => ?_) (kk (by have := wf.2.2.2 a x; rw [e2, e3] at this; exact this))
  obtain ⟨b1, b2, b3⟩ := hR.arr hk (by decide) (by decide)
  rw [List.map_cons, List.map_cons, am_cvR G (hR.lo (by omega))]
  obtain ⟨i1, i2, i3⟩ := am_inA hR hk (by decide) (by decide) hx (fun j => am_val G (am_tg (am_aty 102)) (am_ct L h a (j : Int))) (G.2.2.2.2.2 102)
  refine W.sald S.1 S.2.1 b3 (am_isA S.2.2.2.2.2.2.2.2.1 (by decide) (by decide) _ _) (fun q => by cases q) i2 i3 rfl rfl hd ?_
  rw [show ((x.toNat : Nat) : Int) = x by omega, e3]
  exact w
theorem x_zald {a x : Int} (hd : decode M.2.1 pc = .ok (.baload, 1)) (hk : kd L a = 103) (hx : 0 ≤ x ∧ x < ln L a) (kk : am_rg (am_aty 103) (h a x) → am_X G M d (pc + 1) ls (aI (h a x) :: st) L h Q) : am_X G M d pc ls (aI x :: aR a :: st) L h Q := by
  obtain ⟨e1, e2⟩ := am_aimm (x := x) hk (by decide)
  have e3 : am_ct L h a x = h a x := by unfold am_ct; rw [if_neg (by rw [e1]; decide)]
  refine am_wf fun wf => am_lift (fun p e R s m args below meth c S H locs cells slots lsR Qf hR hL w => ?_) (kk (by have := wf.2.2.2 a x; rw [e2, e3] at this; exact this))
  obtain ⟨b1, b2, b3⟩ := hR.arr hk (by decide) (by decide)
  rw [List.map_cons, List.map_cons, am_cvR G (hR.lo (by omega))]
  obtain ⟨i1, i2, i3⟩ := am_inA hR hk (by decide) (by decide) hx (fun j => am_val G (am_tg (am_aty 103)) (am_ct L h a (j : Int))) (G.2.2.2.2.2 103)
  refine W.zald S.1 S.2.1 b3 (am_isA S.2.2.2.2.2.2.2.2.1 (by decide) (by decide) _ _) (fun q => by cases q) i2 i3 rfl rfl hd ?_
  rw [show ((x.toNat : Nat) : Int) = x by omega, e3]
  exact w
theorem x_lald {a x : Int} (hd : decode M.2.1 pc = .ok (.laload, 1)) (hk : kd L a = 104) (hx : 0 ≤ x ∧ x < ln L a) (kk : am_rg (am_aty 104) (h a x) → am_X G M d (pc + 1) ls (aL (h a x) :: st) L h Q) : am_X G M d pc ls (aI x :: aR a :: st) L h Q := by
  obtain ⟨e1, e2⟩ := am_aimm (x := x) hk (by decide)
  have e3 : am_ct L h a x = h a x := by unfold am_ct; rw [if_neg (by rw [e1]; decide)]
  refine am_wf fun wf => am_lift (fun p e R s m args below meth c S H locs cells slots lsR Qf hR hL w => ?_) (kk (by have := wf.2.2.2 a x; rw [e2, e3] at this; exact this))
  obtain ⟨b1, b2, b3⟩ := hR.arr hk (by decide) (by decide)
  rw [List.map_cons, List.map_cons, am_cvR G (hR.lo (by omega))]
  obtain ⟨i1, i2, i3⟩ := am_inA hR hk (by decide) (by decide) hx (fun j => am_val G (am_tg (am_aty 104)) (am_ct L h a (j : Int))) (G.2.2.2.2.2 104)
  refine W.lald S.1 S.2.1 b3 (am_isA S.2.2.2.2.2.2.2.2.1 (by decide) (by decide) _ _) (fun q => by cases q) i2 i3 rfl rfl hd ?_
  rw [show ((x.toNat : Nat) : Int) = x by omega, e3]
  exact w
theorem x_aald {k : Nat} {a x v : Int} (hd : decode M.2.1 pc = .ok (.aaload, 1)) (hk : kd L a = k) (h1 : 110 ≤ k) (h2 : k < 117) (hx : 0 ≤ x ∧ x < ln L a) (hv : fF L a x = v) (kk : am_X G M d (pc + 1) ls (aR v :: st) L h Q) : am_X G M d pc ls (aI x :: aR a :: st) L h Q := by
  have hrf : (am_aty k).isReference = true ∧ am_tg (am_aty k) = 1 := by
    have : k = 110 ∨ k = 111 ∨ k = 112 ∨ k = 113 ∨ k = 114 ∨ k = 115 ∨ k = 116 := by omega
    rcases this with rfl | rfl | rfl | rfl | rfl | rfl | rfl <;> exact ⟨rfl, rfl⟩
  obtain ⟨e1, e2⟩ := am_aimm (x := x) hk (by omega)
  have e3 : am_ct L h a x = v := by unfold am_ct; rw [if_pos (by rw [e1]; exact decide_eq_true h1)]; exact hv
  refine am_lift (fun p e R s m args below meth c S H locs cells slots lsR Qf hR hL w => ?_) kk
  obtain ⟨b1, b2, b3⟩ := hR.arr hk (by omega) (by omega)
  rw [List.map_cons, List.map_cons, am_cvR G (hR.lo (by omega))]
  obtain ⟨i1, i2, i3⟩ := am_inA hR hk (by omega) (by omega) hx (fun j => am_val G (am_tg (am_aty k)) (am_ct L h a (j : Int))) (G.2.2.2.2.2 k)
  refine W.aald S.1 S.2.1 b3 (am_isA S.2.2.2.2.2.2.2.2.1 (by omega) (by omega) _ _) hrf.1 (fun q => by cases q) i2 i3 rfl rfl hd ?_
  rw [show ((x.toNat : Nat) : Int) = x by omega, e3, hrf.2]
  exact w
theorem x_iast {a x v : Int} (hd : decode M.2.1 pc = .ok (.iastore, 1)) (hk : kd L a = 100) (hx : 0 ≤ x ∧ x < ln L a) (hr : am_rg (am_aty 100) v) (kk : am_X G M d (pc + 1) ls st L (am_st h a x v) Q) : am_X G M d pc ls (aI v :: aI x :: aR a :: st) L h Q := by
  obtain ⟨e1, e2⟩ := am_aimm (x := x) hk (by decide)
  have e1 : am_imm (kd L a) x = false := by rw [e1]; rfl
  have hr' : am_rg (am_ty (kd L a) x) v := by rw [e2]; exact hr
  have hk9 : kd L a ≠ 99 := by omega
  refine am_liftH (fun wf => wf.st hk9 e1 hr') rfl rfl (fun p e R s m args below meth c S H locs cells slots lsR Qf hR hS0 hL w => ?_) kk
  obtain ⟨b1, b2, b3⟩ := hR.arr hk (by decide) (by decide)
  rw [List.map_cons, List.map_cons, List.map_cons, am_cvR G (hR.lo hk9)]
  obtain ⟨i1, i2, i3⟩ := am_inA hR hk (by decide) (by decide) hx (fun j => am_val G (am_tg (am_aty 100)) (am_ct L h a (j : Int))) (G.2.2.2.2.2 100)
  refine W.iast S.1 S.2.1 b3 (am_isA S.2.2.2.2.2.2.2.2.1 (by decide) (by decide) _ _) (fun q => by cases q) i2 rfl rfl hd fun H' z1 z2 z3 => ?_
  rw [am_clamp i1] at z1
  refine w H' _ (hR.st hk9 e1 hr' ?_ z2 z3) (hS0.put z2 z3 (am_loA hR hk (by decide) (by decide)))
  exact am_ast_ok (v := v) hR hk (by decide) (by decide) hx.1 z1 rfl rfl (fun n => by rw [am_ct_st e1]; simp)
theorem x_bast {a x v : Int} (hd : decode M.2.1 pc = .ok (.bastore, 1)) (hk : kd L a = 101) (hx : 0 ≤ x ∧ x < ln L a) (hr : am_rg (am_aty 101) v) (kk : am_X G M d (pc + 1) ls st L (am_st h a x v) Q) : am_X G M d pc ls (aI v :: aI x :: aR a :: st) L h Q := by
  obtain ⟨e1, e2⟩ := am_aimm (x := x) hk (by decide)
  have e1 : am_imm (kd L a) x = false := by rw [e1]; rfl
  have hr' : am_rg (am_ty (kd L a) x) v := by rw [e2]; exact hr
  have hk9 : kd L a ≠ 99 := by omega
  refine am_liftH (fun wf => wf.st hk9 e1 hr') rfl rfl (fun p e R s m args below meth c S H locs cells slots lsR Qf hR hS0 hL w => ?_) kk
  obtain ⟨b1, b2, b3⟩ := hR.arr hk (by decide) (by decide)
  rw [List.map_cons, List.map_cons, List.map_cons, am_cvR G (hR.lo hk9)]
  obtain ⟨i1, i2, i3⟩ := am_inA hR hk (by decide) (by decide) hx (fun j => am_val G (am_tg (am_aty 101)) (am_ct L h a (j : Int))) (G.2.2.2.2.2 101)
  refine W.bast S.1 S.2.1 b3 (am_isA S.2.2.2.2.2.2.2.2.1 (by decide) (by decide) _ _) (fun q => by cases q) i2 rfl rfl hd fun H' z1 z2 z3 => ?_
  rw [show narrow .byte (.int (Int32.ofInt (aI v).2)) = am_val G (am_tg (am_aty 101)) v from (am_narrow (t := .byte) G hr ⟨by decide, by decide⟩).1] at z1
  rw [am_clamp i1] at z1
  refine w H' _ (hR.st hk9 e1 hr' ?_ z2 z3) (hS0.put z2 z3 (am_loA hR hk (by decide) (by decide)))
  exact am_ast_ok (v := v) hR hk (by decide) (by decide) hx.1 z1 rfl rfl (fun n => by rw [am_ct_st e1]; simp)
theorem x_sast {a x v : Int} (hd : decode M.2.1 pc = .ok (.sastore, 1)) (hk : kd L a = 102) (hx : 0 ≤ x ∧ x < ln L a) (hr : am_rg (am_aty 102) v) (kk : am_X G M d (pc + 1) ls st L (am_st h a x v) Q) : am_X G M d pc ls (aI v :: aI x :: aR a :: st) L h Q := by
  obtain ⟨e1, e2⟩ := am_aimm (x := x) hk (by decide)
  have e1 : am_imm (kd L a) x = false := by rw [e1]; rfl
  have hr' : am_rg (am_ty (kd L a) x) v := by rw [e2]; exact hr
  have hk9 : kd L a ≠ 99 := by omega
  refine am_liftH (fun wf => wf.st hk9 e1 hr') rfl rfl (fun p e R s m args below meth c S H locs cells slots lsR Qf hR hS0 hL w => ?_) kk
  obtain ⟨b1, b2, b3⟩ := hR.arr hk (by decide) (by decide)
  rw [List.map_cons, List.map_cons, List.map_cons, am_cvR G (hR.lo hk9)]
  obtain ⟨i1, i2, i3⟩ := am_inA hR hk (by decide) (by decide) hx (fun j => am_val G (am_tg (am_aty 102)) (am_ct L h a (j : Int))) (G.2.2.2.2.2 102)
  refine W.sast S.1 S.2.1 b3 (am_isA S.2.2.2.2.2.2.2.2.1 (by decide) (by decide) _ _) (fun q => by cases q) i2 rfl rfl hd fun H' z1 z2 z3 => ?_
  rw [show narrow .short (.int (Int32.ofInt (aI v).2)) = am_val G (am_tg (am_aty 102)) v from (am_narrow (t := .short) G hr ⟨by decide, by decide⟩).1] at z1
  rw [am_clamp i1] at z1
  refine w H' _ (hR.st hk9 e1 hr' ?_ z2 z3) (hS0.put z2 z3 (am_loA hR hk (by decide) (by decide)))
  exact am_ast_ok (v := v) hR hk (by decide) (by decide) hx.1 z1 rfl rfl (fun n => by rw [am_ct_st e1]; simp)
theorem x_zast {a x v : Int} (hd : decode M.2.1 pc = .ok (.bastore, 1)) (hk : kd L a = 103) (hx : 0 ≤ x ∧ x < ln L a) (hr : am_rg (am_aty 103) v) (kk : am_X G M d (pc + 1) ls st L (am_st h a x v) Q) : am_X G M d pc ls (aI v :: aI x :: aR a :: st) L h Q := by
  obtain ⟨e1, e2⟩ := am_aimm (x := x) hk (by decide)
  have e1 : am_imm (kd L a) x = false := by rw [e1]; rfl
  have hr' : am_rg (am_ty (kd L a) x) v := by rw [e2]; exact hr
  have hk9 : kd L a ≠ 99 := by omega
  refine am_liftH (fun wf => wf.st hk9 e1 hr') rfl rfl (fun p e R s m args below meth c S H locs cells slots lsR Qf hR hS0 hL w => ?_) kk
  obtain ⟨b1, b2, b3⟩ := hR.arr hk (by decide) (by decide)
  rw [List.map_cons, List.map_cons, List.map_cons, am_cvR G (hR.lo hk9)]
  obtain ⟨i1, i2, i3⟩ := am_inA hR hk (by decide) (by decide) hx (fun j => am_val G (am_tg (am_aty 103)) (am_ct L h a (j : Int))) (G.2.2.2.2.2 103)
  refine W.zast S.1 S.2.1 b3 (am_isA S.2.2.2.2.2.2.2.2.1 (by decide) (by decide) _ _) (fun q => by cases q) i2 rfl rfl hd fun H' z1 z2 z3 => ?_
  rw [show narrow .boolean (.int (Int32.ofInt (aI v).2)) = am_val G (am_tg (am_aty 103)) v from (am_narrow (t := .boolean) G hr ⟨by decide, by decide⟩).1] at z1
  rw [am_clamp i1] at z1
  refine w H' _ (hR.st hk9 e1 hr' ?_ z2 z3) (hS0.put z2 z3 (am_loA hR hk (by decide) (by decide)))
  exact am_ast_ok (v := v) hR hk (by decide) (by decide) hx.1 z1 rfl rfl (fun n => by rw [am_ct_st e1]; simp)
theorem x_last {a x v : Int} (hd : decode M.2.1 pc = .ok (.lastore, 1)) (hk : kd L a = 104) (hx : 0 ≤ x ∧ x < ln L a) (hr : am_rg (am_aty 104) v) (kk : am_X G M d (pc + 1) ls st L (am_st h a x v) Q) : am_X G M d pc ls (aL v :: aI x :: aR a :: st) L h Q := by
  obtain ⟨e1, e2⟩ := am_aimm (x := x) hk (by decide)
  have e1 : am_imm (kd L a) x = false := by rw [e1]; rfl
  have hr' : am_rg (am_ty (kd L a) x) v := by rw [e2]; exact hr
  have hk9 : kd L a ≠ 99 := by omega
  refine am_liftH (fun wf => wf.st hk9 e1 hr') rfl rfl (fun p e R s m args below meth c S H locs cells slots lsR Qf hR hS0 hL w => ?_) kk
  obtain ⟨b1, b2, b3⟩ := hR.arr hk (by decide) (by decide)
  rw [List.map_cons, List.map_cons, List.map_cons, am_cvR G (hR.lo hk9)]
  obtain ⟨i1, i2, i3⟩ := am_inA hR hk (by decide) (by decide) hx (fun j => am_val G (am_tg (am_aty 104)) (am_ct L h a (j : Int))) (G.2.2.2.2.2 104)
  refine W.last S.1 S.2.1 b3 (am_isA S.2.2.2.2.2.2.2.2.1 (by decide) (by decide) _ _) (fun q => by cases q) i2 rfl rfl hd fun H' z1 z2 z3 => ?_
  rw [am_clamp i1] at z1
  refine w H' _ (hR.st hk9 e1 hr' ?_ z2 z3) (hS0.put z2 z3 (am_loA hR hk (by decide) (by decide)))
  exact am_ast_ok (v := v) hR hk (by decide) (by decide) hx.1 z1 rfl rfl (fun n => by rw [am_ct_st e1]; simp)
/-- a reference stored into an array of references, at an address of ours: the element's class is E's, castable -/
theorem x_aast {k kv : Nat} {a x v : Int} {E C : String} {T : u_T} {N : Nat} (hd : decode M.2.1 pc = .ok (.aastore, 1)) (hk : kd L a = k) (h1 : 110 ≤ k) (h2 : k < 117) (ha : 200 ≤ a) (hx : 0 ≤ x ∧ x < ln L a) (hE : am_aty k = .object E) (hv : kd L v = kv) (hcv : am_Cls kv C T N) (hca : Cond.castable C E ∈ lw_tbl ∨ C = E)
    (kk : am_X G M d (pc + 1) ls st (am_pf L a x v) h Q) : am_X G M d pc ls (aR v :: aI x :: aR a :: st) L h Q := by
  obtain ⟨e1, e2⟩ := am_aimm (x := x) hk (by omega)
  have e1 : am_imm (kd L a) x = true := by rw [e1]; exact decide_eq_true h1
  have hr' : am_rg (am_ty (kd L a) x) v := by rw [e2, hE]; trivial
  have hk9 : kd L a ≠ 99 := by omega
  obtain ⟨hv99, hvc, -⟩ := hcv
  refine am_liftH (fun wf => wf.pf hk9 e1 hr') rfl rfl (fun p e R s m args below meth c S H locs cells slots lsR Qf hR hS0 hL w => ?_) kk
  obtain ⟨b1, b2, b3⟩ := hR.arr hk (by omega) (by omega)
  have hv0 := hR.lo (a := v) (by omega)
  rw [List.map_cons, List.map_cons, List.map_cons, am_cvR G (hR.lo hk9), am_cvR G hv0]
  obtain ⟨i1, i2, i3⟩ := am_inA hR hk (by omega) (by omega) hx (fun j => am_val G (am_tg (am_aty k)) (am_ct L h a (j : Int))) (G.2.2.2.2.2 k)
  obtain ⟨cellV, g1, g2, g3, -⟩ := hR.obj hv hv99 hvc
  have hK := S.2.2.2.2.2.2.2.2.1
  have hcls := (hK.1 kv _ hvc).2
  have hRA := (hK.2.1 k (by omega) (by omega)).2
  rw [hE] at hRA
  obtain ⟨kA, comp, k1, k2, k3, -⟩ := hRA
  obtain ⟨kC, hkC, -⟩ := hcls.2
  have hasg : s.vm.assignable (G.2.2.2.1 kv) comp = true := by
    rcases hca with q | q
    · exact vb_asgC (hK.2.2.1 _ q rfl) comp _ k3 hcls.1
    · rw [← q] at k3
      cases k3.symm.trans hcls.1
      exact va_assign hcls
  obtain ⟨kcomp, hkcomp, -⟩ := Vm.findClass_spec k3
  refine W.aast S.1 S.2.1 b3 (fun q z => by cases z) (fun z => by cases z) k1 k2 rfl hkcomp ⟨fun q => i2 (Or.inl q), by have := fun q => i2 (Or.inr q); omega⟩ g1 (fun q z => by rw [g3] at z; cases z) (by rw [g2]; exact hkC) (by rw [g2]; exact hasg) rfl rfl hd fun H' z1 z2 z3 => ?_
  rw [am_clamp i1, show Value.ref (am_ad G v) = am_val G (am_tg (am_aty k)) v from by rw [hE]; exact (am_cvR G hv0).symm] at z1
  refine w H' _ (hR.pf ha hk9 e1 hr' ?_ z2 z3) (hS0.put z2 z3 (by show G.2.1 ≤ am_ad G a; unfold am_ad; rw [if_neg (by omega)]; omega))
  exact am_ast_ok hR hk (by omega) (by omega) hx.1 z1 rfl rfl (fun n => by rw [am_ct_pf e1]; simp)
/-! what is made -/
theorem am_va_push {s : State} {H H1 : Heap} {locs : List Loc} (hS : va_S (am_Fr G) s.heap H locs) (hz : H1.size = H.size + 1) (ho : ∀ q, q < H.size → H1[q]? = H[q]?) : va_S (am_Fr G) s.heap H1 locs := by
  obtain ⟨a1, a2, a3⟩ := hS
  exact ⟨by omega, fun q hq hn => by rw [ho q (by omega)]; exact a2 q hq hn, a3⟩
theorem x_new {i k N : Nat} {C : String} {T : u_T} (hd : decode M.2.1 pc = .ok (.new i, 3)) (hc : am_Cls k C T N) (hw : Cond.classLink M.1.cls i C ∈ lw_all) (hins : Cond.instantiable C N ∈ lw_all) (hini : Cond.initialized C ∈ lw_all) (hnf : (List.range N).all (fun j => decide (am_fty k j ≠ .float ∧ am_fty k j ≠ .double)) = true)
    (kk : (∀ j, h (nx L) j = 0 ∧ fF L (nx L) j = 0) → am_X G M d (pc + 3) ls (aR (nx L) :: st) (am_al L k N) h Q) : am_X G M d pc ls st L h Q := by
  obtain ⟨hk99, hcl, hin, hty, hnm⟩ := hc
  refine am_wf fun wf => am_liftA (fun wf => wf.al (by omega)) (by omega) (fun p e R s m args below meth c S H locs cells slots lsR Qf hR hS0 hL c1 c2 w => ?_) (kk (fun j => wf.2.2.1 _ j (Int.le_refl _)))
  have hKn := S.2.2.2.2.2.2.2.2.1.1 k _ hcl
  have hts := S.2.2.2.2.2.1
  refine W.newcK S.1 S.2.1 S.2.2.2.2.1 (hts _ hw) (hts _ hins) (hts _ hini) rfl hd c1 c2 hKn.2.1 rfl fun H1 kC hkC e1 z1 o1 => ?_
  have hb := u_born (am_fty k) hts hin hKn hkC e1 hty
  have hRel : am_Rel G (am_al L k N) h H1 := by
    refine hR.al (by omega) (Or.inl ⟨by rw [kd_al, if_pos rfl]; omega, (C, T, N), by rw [kd_al, if_pos rfl]; exact hcl, by rw [ln_al, if_pos rfl], ?_⟩) z1 o1
    rw [kd_al, if_pos rfl, am_ad_nx hR]
    refine t_OB.to hb (fun j hj => ?_)
    rw [am_ct_new hR]
    exact (am_val0 G _ (of_decide_eq_true (List.all_eq_true.mp hnf j (List.mem_range.mpr hj)))).symm
  have := w H1 hRel (am_va_push hS0 z1 o1)
  rw [List.map_cons, am_cvR G (by have := hR.1.1; omega), am_ad_nx hR] at this
  exact this
theorem am_new_arr {k : Nat} {n : Int} {H H1 : Heap} (hR : am_Rel G L h H) (h1 : 100 ≤ k) (h2 : k < 120) (hn : 0 ≤ n ∧ n ≤ 2147483647) (hnf : am_aty k ≠ .float ∧ am_aty k ≠ .double) (e1 : H1[H.size]? = some (arrV (G.2.2.2.2.2 k) n.toNat (fun _ => defaultValue (am_aty k)))) (z1 : H1.size = H.size + 1) (o1 : ∀ q, q < H.size → H1[q]? = H[q]?) : am_Rel G (am_al L k n) h H1 := by
  refine hR.al hn.1 (Or.inr ⟨by rw [kd_al, if_pos rfl]; exact h1, by rw [kd_al, if_pos rfl]; exact h2, by rw [ln_al, if_pos rfl]; exact hn.1, by rw [ln_al, if_pos rfl]; exact hn.2, ?_⟩) z1 o1
  rw [kd_al, if_pos rfl, ln_al, if_pos rfl, am_ad_nx hR, e1]
  congr 2
  funext j
  rw [am_ct_new hR]
  exact (am_val0 G _ hnf).symm
theorem x_newI {n : Int} (hd : decode M.2.1 pc = .ok (.newarray .int, 2)) (hw : Cond.arrayClass .int ∈ lw_all) (hn : 0 ≤ n ∧ n ≤ 60000000) (kk : (∀ j, h (nx L) j = 0) → am_X G M d (pc + 2) ls (aR (nx L) :: st) (am_al L 100 n) h Q) : am_X G M d pc ls (aI n :: st) L h Q := by
  refine am_wf fun wf => am_liftA (fun wf => wf.al (by omega)) (by omega) (fun p e R s m args below meth c S H locs cells slots lsR Qf hR hS0 hL c1 c2 w => ?_) (kk (fun j => (wf.2.2.1 _ j (Int.le_refl _)).1))
  have hr : rg32 n := ⟨by omega, by omega⟩
  refine va_newaK S.1 S.2.1 (atype := .int) (S.2.2.2.2.2.1 _ hw) rfl hd rfl (by show ¬ Int32.ofInt n < 0; rw [am_0, am_lt hr am_r0]; omega) (am_clamp hr) (by show n.toNat * 4 ≤ 536870912; omega) c1 c2 rfl fun H1 cA e1 z1 o1 hAr hNm => ?_
  have hRA := (S.2.2.2.2.2.2.2.2.1.2.1 100 (by decide) (by decide)).2
  have hcA : cA = G.2.2.2.2.2 100 := Option.some.inj (hNm.symm.trans hRA)
  subst hcA
  have := w H1 (am_new_arr hR (by decide) (by decide) ⟨hn.1, by omega⟩ ⟨by decide, by decide⟩ e1 z1 o1) (am_va_push hS0 z1 o1)
  rw [List.map_cons, am_cvR G (by have := hR.1.1; omega), am_ad_nx hR] at this
  exact this
theorem x_newB {n : Int} (hd : decode M.2.1 pc = .ok (.newarray .byte, 2)) (hw : Cond.arrayClass .byte ∈ lw_all) (hn : 0 ≤ n ∧ n ≤ 60000000) (kk : (∀ j, h (nx L) j = 0) → am_X G M d (pc + 2) ls (aR (nx L) :: st) (am_al L 101 n) h Q) : am_X G M d pc ls (aI n :: st) L h Q := by
  refine am_wf fun wf => am_liftA (fun wf => wf.al (by omega)) (by omega) (fun p e R s m args below meth c S H locs cells slots lsR Qf hR hS0 hL c1 c2 w => ?_) (kk (fun j => (wf.2.2.1 _ j (Int.le_refl _)).1))
  have hr : rg32 n := ⟨by omega, by omega⟩
  refine va_newaK S.1 S.2.1 (atype := .byte) (S.2.2.2.2.2.1 _ hw) rfl hd rfl (by show ¬ Int32.ofInt n < 0; rw [am_0, am_lt hr am_r0]; omega) (am_clamp hr) (by show n.toNat * 1 ≤ 536870912; omega) c1 c2 rfl fun H1 cA e1 z1 o1 hAr hNm => ?_
  have hRA := (S.2.2.2.2.2.2.2.2.1.2.1 101 (by decide) (by decide)).2
  have hcA : cA = G.2.2.2.2.2 101 := Option.some.inj (hNm.symm.trans hRA)
  subst hcA
  have := w H1 (am_new_arr hR (by decide) (by decide) ⟨hn.1, by omega⟩ ⟨by decide, by decide⟩ e1 z1 o1) (am_va_push hS0 z1 o1)
  rw [List.map_cons, am_cvR G (by have := hR.1.1; omega), am_ad_nx hR] at this
  exact this
theorem x_newS {n : Int} (hd : decode M.2.1 pc = .ok (.newarray .short, 2)) (hw : Cond.arrayClass .short ∈ lw_all) (hn : 0 ≤ n ∧ n ≤ 60000000) (kk : (∀ j, h (nx L) j = 0) → am_X G M d (pc + 2) ls (aR (nx L) :: st) (am_al L 102 n) h Q) : am_X G M d pc ls (aI n :: st) L h Q := by
  refine am_wf fun wf => am_liftA (fun wf => wf.al (by omega)) (by omega) (fun p e R s m args below meth c S H locs cells slots lsR Qf hR hS0 hL c1 c2 w => ?_) (kk (fun j => (wf.2.2.1 _ j (Int.le_refl _)).1))
  have hr : rg32 n := ⟨by omega, by omega⟩
  refine va_newaK S.1 S.2.1 (atype := .short) (S.2.2.2.2.2.1 _ hw) rfl hd rfl (by show ¬ Int32.ofInt n < 0; rw [am_0, am_lt hr am_r0]; omega) (am_clamp hr) (by show n.toNat * 2 ≤ 536870912; omega) c1 c2 rfl fun H1 cA e1 z1 o1 hAr hNm => ?_
  have hRA := (S.2.2.2.2.2.2.2.2.1.2.1 102 (by decide) (by decide)).2
  have hcA : cA = G.2.2.2.2.2 102 := Option.some.inj (hNm.symm.trans hRA)
  subst hcA
  have := w H1 (am_new_arr hR (by decide) (by decide) ⟨hn.1, by omega⟩ ⟨by decide, by decide⟩ e1 z1 o1) (am_va_push hS0 z1 o1)
  rw [List.map_cons, am_cvR G (by have := hR.1.1; omega), am_ad_nx hR] at this
  exact this
theorem x_newZ {n : Int} (hd : decode M.2.1 pc = .ok (.newarray .boolean, 2)) (hw : Cond.arrayClass .boolean ∈ lw_all) (hn : 0 ≤ n ∧ n ≤ 60000000) (kk : (∀ j, h (nx L) j = 0) → am_X G M d (pc + 2) ls (aR (nx L) :: st) (am_al L 103 n) h Q) : am_X G M d pc ls (aI n :: st) L h Q := by
  refine am_wf fun wf => am_liftA (fun wf => wf.al (by omega)) (by omega) (fun p e R s m args below meth c S H locs cells slots lsR Qf hR hS0 hL c1 c2 w => ?_) (kk (fun j => (wf.2.2.1 _ j (Int.le_refl _)).1))
  have hr : rg32 n := ⟨by omega, by omega⟩
  refine va_newaK S.1 S.2.1 (atype := .boolean) (S.2.2.2.2.2.1 _ hw) rfl hd rfl (by show ¬ Int32.ofInt n < 0; rw [am_0, am_lt hr am_r0]; omega) (am_clamp hr) (by show n.toNat * 1 ≤ 536870912; omega) c1 c2 rfl fun H1 cA e1 z1 o1 hAr hNm => ?_
  have hRA := (S.2.2.2.2.2.2.2.2.1.2.1 103 (by decide) (by decide)).2
  have hcA : cA = G.2.2.2.2.2 103 := Option.some.inj (hNm.symm.trans hRA)
  subst hcA
  have := w H1 (am_new_arr hR (by decide) (by decide) ⟨hn.1, by omega⟩ ⟨by decide, by decide⟩ e1 z1 o1) (am_va_push hS0 z1 o1)
  rw [List.map_cons, am_cvR G (by have := hR.1.1; omega), am_ad_nx hR] at this
  exact this
theorem x_newJ {n : Int} (hd : decode M.2.1 pc = .ok (.newarray .long, 2)) (hw : Cond.arrayClass .long ∈ lw_all) (hn : 0 ≤ n ∧ n ≤ 60000000) (kk : (∀ j, h (nx L) j = 0) → am_X G M d (pc + 2) ls (aR (nx L) :: st) (am_al L 104 n) h Q) : am_X G M d pc ls (aI n :: st) L h Q := by
  refine am_wf fun wf => am_liftA (fun wf => wf.al (by omega)) (by omega) (fun p e R s m args below meth c S H locs cells slots lsR Qf hR hS0 hL c1 c2 w => ?_) (kk (fun j => (wf.2.2.1 _ j (Int.le_refl _)).1))
  have hr : rg32 n := ⟨by omega, by omega⟩
  refine va_newaK S.1 S.2.1 (atype := .long) (S.2.2.2.2.2.1 _ hw) rfl hd rfl (by show ¬ Int32.ofInt n < 0; rw [am_0, am_lt hr am_r0]; omega) (am_clamp hr) (by show n.toNat * 8 ≤ 536870912; omega) c1 c2 rfl fun H1 cA e1 z1 o1 hAr hNm => ?_
  have hRA := (S.2.2.2.2.2.2.2.2.1.2.1 104 (by decide) (by decide)).2
  have hcA : cA = G.2.2.2.2.2 104 := Option.some.inj (hNm.symm.trans hRA)
  subst hcA
  have := w H1 (am_new_arr hR (by decide) (by decide) ⟨hn.1, by omega⟩ ⟨by decide, by decide⟩ e1 z1 o1) (am_va_push hS0 z1 o1)
  rw [List.map_cons, am_cvR G (by have := hR.1.1; omega), am_ad_nx hR] at this
  exact this
theorem x_newA {i k : Nat} {n : Int} {C : String} (hd : decode M.2.1 pc = .ok (.anewarray i, 3)) (hk1 : 110 ≤ k) (hk2 : k < 117) (hty : am_aty k = .object C) (hw : Cond.classLink M.1.cls i C ∈ lw_all) (hover : Cond.arrayOver (.object C) ∈ lw_tbl) (hn : 0 ≤ n ∧ n ≤ 60000000)
    (kk : (∀ j, fF L (nx L) j = 0) → am_X G M d (pc + 3) ls (aR (nx L) :: st) (am_al L k n) h Q) : am_X G M d pc ls (aI n :: st) L h Q := by
  refine am_wf fun wf => am_liftA (fun wf => wf.al (by omega)) (by omega) (fun p e R s m args below meth c S H locs cells slots lsR Qf hR hS0 hL c1 c2 w => ?_) (kk (fun j => (wf.2.2.1 _ j (Int.le_refl _)).2))
  have hr : rg32 n := ⟨by omega, by omega⟩
  have hK := S.2.2.2.2.2.2.2.2.1
  refine W.anew S.1 S.2.1 S.2.2.2.2.1 (S.2.2.2.2.2.1 _ hw) ((hK.2.2.2.1 _ hover).use) rfl hd (n := Int32.ofInt n) rfl (by rw [am_0, am_lt hr am_r0]; omega) (by rw [am_clamp hr]; omega) c1 (by rw [am_clamp hr]; exact c2) fun cA kA comp f1 f2 f3 f4 => ?_
  have hRA := (hK.2.1 k (by omega) (by omega)).2
  rw [hty] at hRA
  obtain ⟨kA2, comp2, k1, k2, k3, k4⟩ := hRA
  have hcA : cA = G.2.2.2.2.2 k := Option.some.inj (f1.symm.trans k4)
  subst hcA
  rw [am_clamp hr]
  generalize hH1 : H.push ({ cls := G.2.2.2.2.2 k, slots := Array.replicate n.toNat .null, vm := .none } : Cell) = H1
  have z1 : H1.size = H.size + 1 := by rw [← hH1, Array.size_push]
  have e1 : H1[H.size]? = some (arrV (G.2.2.2.2.2 k) n.toNat (fun _ => defaultValue (am_aty k))) := by rw [← hH1, Array.getElem?_push_size, ← arrV_new, hty]; rfl
  have o1 : ∀ q : Nat, q < H.size → H1[q]? = H[q]? := fun q hq => by rw [← hH1, Array.getElem?_push, if_neg (Nat.ne_of_lt hq)]
  have := w H1 (am_new_arr hR (by omega) (by omega) ⟨hn.1, by omega⟩ (by rw [hty]; exact ⟨by simp, by simp⟩) e1 z1 o1) (am_va_push hS0 z1 o1)
  rw [List.map_cons, am_cvR G (by have := hR.1.1; omega), am_ad_nx hR] at this
  exact this
/-! ends -/
theorem am_end_i {o : am_O} {v : Int} (ho : o = .inl [aI v]) {t : State} {H : Heap} (ht : t.heap = H) (hR : am_Rel G L h H) (a : Array Value) (s : State) : am_QO G o L h a s (.returned (some (.int (Int32.ofInt v)))) t := ⟨⟨[aI v], ho, rfl⟩, by rw [ht]; exact hR⟩
theorem x_iret {v : Int} (hd : decode M.2.1 pc = .ok (.ireturn, 1)) (hr : M.2.2.2.1 = some .int) (k : Q (.inl [aI v]) L h) : am_X G M d pc ls [aI v] L h Q := fun wf => ⟨.inl [aI v], L, h, k, wf, ⟨Int.le_refl _, Int.le_refl _⟩, fun p e R s m args below meth c S H locs cells slots lsR hR hS hL e1 e2 => by
  rw [show R.cells = cells by omega, show R.slots = slots by omega]
  exact xa_ret (W.iret (v := Int32.ofInt v) S.1 S.2.1 (by rw [S.2.2.1]; exact hr) (fun t ht hW => ⟨⟨[aI v], rfl, rfl⟩, by rw [ht]; exact hR⟩) hS.2.2 hd S.2.2.2.2.2.2.1)⟩
theorem x_zret {v : Int} (hd : decode M.2.1 pc = .ok (.ireturn, 1)) (hr : M.2.2.2.1 = some .boolean) (hv : 0 ≤ v ∧ v ≤ 1) (k : Q (.inl [aI v]) L h) : am_X G M d pc ls [aI v] L h Q := fun wf => ⟨.inl [aI v], L, h, k, wf, ⟨Int.le_refl _, Int.le_refl _⟩, fun p e R s m args below meth c S H locs cells slots lsR hR hS hL e1 e2 => by
  rw [show R.cells = cells by omega, show R.slots = slots by omega]
  exact xa_ret (W.zret (v := Int32.ofInt v) (ty := .boolean) S.1 S.2.1 (by rw [S.2.2.1]; exact hr) (am_narrow (t := .boolean) G hv ⟨by decide, by decide⟩).1 (fun t ht hW => ⟨⟨[aI v], rfl, rfl⟩, by rw [ht]; exact hR⟩) hS.2.2 hd S.2.2.2.2.2.2.1)⟩
theorem x_lret {v : Int} (hd : decode M.2.1 pc = .ok (.lreturn, 1)) (hr : M.2.2.2.1 = some .long) (k : Q (.inl [aL v]) L h) : am_X G M d pc ls [aL v] L h Q := fun wf => ⟨.inl [aL v], L, h, k, wf, ⟨Int.le_refl _, Int.le_refl _⟩, fun p e R s m args below meth c S H locs cells slots lsR hR hS hL e1 e2 => by
  rw [show R.cells = cells by omega, show R.slots = slots by omega]
  exact xa_ret (W.lret (v := Int64.ofInt v) S.1 S.2.1 (by rw [S.2.2.1]; exact hr) (fun t ht hW => ⟨⟨[aL v], rfl, rfl⟩, by rw [ht]; exact hR⟩) hS.2.2 hd S.2.2.2.2.2.2.1)⟩
theorem x_ret (hd : decode M.2.1 pc = .ok (.return_, 1)) (hr : M.2.2.2.1 = none) (k : Q (.inl []) L h) : am_X G M d pc ls [] L h Q := fun wf => ⟨.inl [], L, h, k, wf, ⟨Int.le_refl _, Int.le_refl _⟩, fun p e R s m args below meth c S H locs cells slots lsR hR hS hL e1 e2 => by
  rw [show R.cells = cells by omega, show R.slots = slots by omega]
  exact xa_ret (W.vret S.1 S.2.1 (by rw [S.2.2.1]; exact hr) (fun t ht hW => ⟨⟨[], rfl, rfl⟩, by rw [ht]; exact hR⟩) hS.2.2 hd S.2.2.2.2.2.2.1)⟩
theorem x_aret {a : Int} {C : String} (hd : decode M.2.1 pc = .ok (.areturn, 1)) (hr : M.2.2.2.1 = some (.object C)) (k : Q (.inl [aR a]) L h) : am_X G M d pc ls [aR a] L h Q := fun wf => ⟨.inl [aR a], L, h, k, wf, ⟨Int.le_refl _, Int.le_refl _⟩, fun p e R s m args below meth c S H locs cells slots lsR hR hS hL e1 e2 => by
  rw [show R.cells = cells by omega, show R.slots = slots by omega]
  refine xa_ret (W.aret (v := am_cv G (aR a)) S.1 S.2.1 (by rw [S.2.2.1]; exact hr) (Or.inl ⟨C, rfl⟩) ?_ (fun t ht hW => ⟨⟨[aR a], rfl, rfl⟩, by rw [ht]; exact hR⟩) hS.2.2 hd S.2.2.2.2.2.2.1)
  by_cases q : a = 0
  · subst q; exact Or.inl rfl
  · exact Or.inr ⟨_, am_cvR G q⟩⟩
end AMHEAP
