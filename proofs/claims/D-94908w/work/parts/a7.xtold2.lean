/-! THREADTOWN READS: names; lists, men, corners -/
set_option maxRecDepth 100000
section XTOLD2
variable {G : am_G} {M : am_M} {pc : Nat} {ls st : List AV} {L L' : am_L} {h h' : am_H} {x D N a t c l : Int} {b : Int → Int} {d : Nat} {Q : am_O → am_L → am_H → Prop} {u : PS}
theorem XG.hh {h2 : am_H} (r : XG L h L' h' x c) (hh : ∀ y, y ≠ x + 9 → y ≠ x + 1 → h2 y = h' y) : XG L h L' h2 x c := ⟨r.1, r.2.1, r.2.2.1, fun a z0 z1 z2 => (hh a z1 z2).trans (r.2.2.2 a z0 z1 z2)⟩
theorem PsX.up {h2 : am_H} (r : PsX h x t a u) (e : h2 (x + 9) = h (x + 9)) : PsX h2 x t a u := by
  unfold PsX
  rw [e]
  exact r
/-- a field named through the class that inherits it -/
theorem x_getInh {i k : Nat} {j a v : Int} {t : FieldType} {fin : Bool} {own ref : String} {i0 : Nat} (hd : decode M.2.1 pc = .ok (.getfield i, 3)) (hf : am_FL own i0 k j t true fin) (hl : ∀ C T N, am_Cls k C T N → Cond.fieldLink M.1.cls i ref (T j.toNat).2.1 (T j.toNat).2.2.1 ∈ lw_all ∧ Cond.sameField ref (T j.toNat).1 (T j.toNat).2.1 (T j.toNat).2.2.1 ∈ lw_all) (htg : am_tg t = 0) (hk : kd L a = k) (hv : fF L a j = v)
    (kk : am_rg t v → am_X G M d (pc + 3) ls (aI v :: st) L h Q) : am_X G M d pc ls (aR a :: st) L h Q := by
  obtain ⟨e1, e2, -⟩ := hf.immE (L := L) hk
  have e3 : am_ct L h a j = v := by unfold am_ct; rw [if_pos e1]; exact hv
  refine am_wf fun wf => ?_
  have kk1 := kk (by have := wf.2.2.2 a j; rw [e2, e3] at this; exact this)
  obtain ⟨C, T, N, hC, hj0, hj, hlink, ht, him, hfin, hfd⟩ := hf
  have hl2 := hl C T N hC
  obtain ⟨hk99, hc, hin, hty, hnm⟩ := hC
  refine am_lift (fun p e R s m args below meth c S H locs cells slots lsR Qf hR hL w => ?_) kk1
  obtain ⟨cell, q1, q2, q3, q4⟩ := hR.obj hk hk99 hc
  obtain ⟨hS, hfc, kC, hkC, hkind⟩ := S.2.2.2.2.2.2.2.2.1.1 k _ hc
  obtain ⟨cf, kf, fi, f, hi, hsl⟩ := hS j.toNat hj
  rw [List.map_cons, am_cvR G (hR.lo (by omega))]
  refine W.getf S.1 S.2.1 S.2.2.2.2.1 (S.2.2.2.2.2.1 _ hl2.1) (u_same (S.2.2.2.2.2.1 _ hl2.2) _ hi) (u_facts hfc hkC (u_lays S.2.2.2.2.2.1 hin hj) hi).1 q1 (by rw [q3]; exact fun z => by cases z) (v := am_cv G (aI v)) ?_ rfl rfl hd w
  have h4 := q4 _ hj
  rw [hsl, h4]
  show some (am_val G (am_tg (am_fty k j.toNat)) (am_ct L h a ((j.toNat : Nat) : Int))) = _
  rw [ht, show ((j.toNat : Nat) : Int) = j by omega, htg, e3]
  rfl
theorem x_putInh {i k : Nat} {j a v : Int} {t : FieldType} {own ref : String} {i0 : Nat} (hd : decode M.2.1 pc = .ok (.putfield i, 3)) (hf : am_FL own i0 k j t true false) (hl : ∀ C T N, am_Cls k C T N → Cond.fieldLink M.1.cls i ref (T j.toNat).2.1 (T j.toNat).2.2.1 ∈ lw_all ∧ Cond.sameField ref (T j.toNat).1 (T j.toNat).2.1 (T j.toNat).2.2.1 ∈ lw_all) (hk : kd L a = k) (ha : 200 ≤ a) (hr : am_rg t v)
    (kk : am_X G M d (pc + 3) ls st (am_pf L a j v) h Q) : am_X G M d pc ls ((am_tg t, v) :: aR a :: st) L h Q := by
  obtain ⟨m1, m2, m3⟩ := hf.immE (L := L) hk
  have hf' := hf
  obtain ⟨C, T, N, hC, hj0, hj, hlink, ht, him, hfin, hfd⟩ := hf
  have hl2 := hl C T N hC
  obtain ⟨hk99, hc, hin, hty, hnm⟩ := hC
  have hr' : am_rg (am_ty (kd L a) j) v := by rw [m2]; exact hr
  refine am_liftH (fun wf => wf.pf m3 m1 hr') rfl rfl (fun p e R s m args below meth c S H locs cells slots lsR Qf hR hS0 hL w => ?_) kk
  obtain ⟨cell, q1, q2, q3, q4⟩ := hR.obj hk hk99 hc
  obtain ⟨hS, hfc, kC, hkC, hkind⟩ := S.2.2.2.2.2.2.2.2.1.1 k _ hc
  obtain ⟨cf, kf, fi, f, hi, hsl⟩ := hS j.toNat hj
  have hlay := S.2.2.2.2.2.1 _ (hin _ (u_in_lay hj))
  unfold u_lay at hlay
  rw [if_neg (by rw [hfin]; decide)] at hlay
  have hst := (u_facts hfc hkC (u_lays S.2.2.2.2.2.1 hin hj) hi).1
  have hnf := am_narrow G hr hfd
  have h6 := u_store hfc hkC hkind hlay hi (by rw [hty _ hj, ht]) hnf.1 hnf.2
  rw [List.map_cons, List.map_cons, am_cvR G (hR.lo m3)]
  refine W.putK S.1 S.2.1 (f := f) ⟨S.2.2.2.2.1, S.2.2.2.2.2.1 _ hl2.1, ⟨_, _, _, u_same (S.2.2.2.2.2.1 _ hl2.2) _ hi⟩, hst⟩ (by rw [q2]; exact h6) q1 q3 (by rw [hsl]; exact k2_hasslot (q4 _ hj)) rfl rfl hd fun H' e1 e2 e3 => ?_
  rw [hsl] at e1 ⊢
  refine w H' _ (hR.pf ha m3 m1 hr' ?_ e2 e3) (hS0.put e2 e3 ?_)
  · exact am_put_ok hR S.2.2.2.2.2.1 S.2.2.2.2.2.2.2.2.1 hf' hk q1 e1 rfl rfl (fun n => by rw [am_ct_pf m1]; simp)
  · show G.2.1 ≤ am_ad G a
    unfold am_ad
    rw [if_neg (by omega)]
    omega
theorem modC : ∀ C T N, am_Cls 20 C T N → Cond.fieldLink "java/util/ArrayList" 63 "java/util/ArrayList" (T (0 : Int).toNat).2.1 (T (0 : Int).toNat).2.2.1 ∈ lw_all ∧ Cond.sameField "java/util/ArrayList" (T (0 : Int).toNat).1 (T (0 : Int).toNat).2.1 (T (0 : Int).toNat).2.2.1 ∈ lw_all := by
  intro C T N hC
  obtain ⟨-, e, -⟩ := hC
  cases (am_k20.2.1.symm.trans e)
  exact ⟨q341, q342⟩
/-- the name at token a, which is one -/
theorem C_text (hR : RdX L h x b D N) (ha : inN N a) (hk : sK b D a = 1) (k : ∀ L' h' r, NmL L' h' r (sJ b D a) → XG L h L' h' x 1 → (∀ y, y < nx L → h' y = h y) → Q (.inl [aR r]) L' h') : am_C G mX2_text (d + 9) [aR (x + 2), aI a] L h Q := by
  have ha0 := ha.1
  have hND : N ≤ 2000 := by have := hR.2.2.2.2.2.1; have := hR.2.2.1; omega
  have htk := hR.tk ha0
  have hn := hR.nam ha hk
  have hx := hR.2.1
  refine C_X2_text hR.mk hx.2 hx.1 (by omega) htk.2.1 (htk.2.2.1 (by omega)) hn.1 hn.2.1 (fun L1 h1 r y1 y2 y3 y4 y5 y6 y7 => k L1 h1 r ?_ ⟨y2, ⟨by omega, by omega⟩, by omega, fun y z0 z1 z2 => y7 y z0⟩ y7)
  rw [hn.2.2] at y1
  exact y1
theorem C_X3_name (hR : RdX L h x b D N) (ha : inN N a) (hP : PsX h x t a u) (hT : TxP L h t u) (hu : 0 ≤ tM (uT u) ∧ tM (uT u) ≤ 7)
    (kS : ∀ a' u' L' h' r, pName (sK b D) (sJ b D) a u = .inl (a', u') → a < a' → inN N a' → XG L h L' h' x 1 → NmL L' h' r (sJ b D a) → TxP L' h' t u' → PsX h' x t a' u' → Q (.inl [aR r]) L' h')
    (kF : ∀ n tk L' h', pName (sK b D) (sJ b D) a u = .inr (n, tk) → XG L h L' h' x 1 → (0 ≤ tk ∧ tk ≤ N) → FX1 h' x b D n tk → Q (.inr (x + 1)) L' h') : am_C G mX3_name (d + 10) [aR (x + 9)] L h Q := by
  have hK := hR.mk
  have ha0 := ha.1
  have ha4 := ha.2
  have hND : N ≤ 2000 := by have := hR.2.2.2.2.2.1; have := hR.2.2.1; omega
  have hx := hR.2.1
  have hp : pName (sK b D) (sJ b D) a u = rb (pM (sK b D) 1 a) fun a1 => .inl (a1, if 0 ≤ fdM u (sJ b D a) then pTell 3 a u else u) := rfl
  obtain ⟨p1, p2, p3, p4, p5⟩ := id hP
  have hbad : ∀ n, (n = 1 ∨ n = 2) → pM (sK b D) 1 a = .inr (n, a) → Q (.inr (x + 1)) L (fltH h x n (sP b D a)) := fun n z1 z2 => kF n a _ _ (by rw [hp, z2, rb_r]) ((XG.rf L h x).flt.le (by omega)) ha0 ⟨fltH_6, fltH_7⟩
  refine x_start okX3_name rfl rfl rfl rfl ?_
  refine x_aload_0 dX3_name_0 ?_
  refine x_iconst dX3_name_1 ?_
  refine x_callV1 dX3_name_2 rfl okX3_take q772 q774 qs15 (by first | assumption | (exact MkL.k_parser (by assumption))) am_k3 rfl (C_X3_take (kk := 1) hR p2 ha (Or.inl ⟨rfl, rfl⟩) (fun z1 z2 => (x_k1 ?_)) (fun z1 => x_kx ⟨hK.k_fault, hbad 1 (Or.inl rfl) (pM_1 z1)⟩) (fun z1 z2 => x_kx ⟨hK.k_fault, hbad 2 (Or.inr rfl) (pM_2 z1 z2)⟩))
  refine am_wf fun wf => ?_
  rw [pM_ok z1 z2, rb_l] at hp
  have hR1 : RdX L (am_st h (x + 9) 3 (a + 1)) x b D N := hR.st9
  have hP1 : PsX (am_st h (x + 9) 3 (a + 1)) x t (a + 1) u := ⟨by rw [am_st_i (by decide)]; exact p1, am_st_s, by rw [am_st_i (by decide)]; exact p3, by rw [am_st_i (by decide)]; exact p4, by rw [am_st_i (by decide)]; exact p5⟩
  have hnx := hR.nx ha (by omega) (by omega) z2
  have hT1 : TxP L (am_st h (x + 9) 3 (a + 1)) t u := hT.hh fun y q => am_st_o (by intro z; rw [z, hK.k_parser] at q; omega)
  refine x_istore_1 dX3_name_5 rfl ?_
  refine x_aload_0 dX3_name_6 ?_
  refine x_getR dX3_name_7 fl296_3 rfl (by first | (exact MkL.k_parser (by assumption)) | (assumption)) (by first | (exact MkL.v_t (by assumption)) | (assumption)) ?_
  refine x_iload_1 dX3_name_10 ?_
  refine x_callV1 dX3_name_11 rfl okX2_text q795 q796 q797 (by first | assumption | (exact MkL.k_tokens (by assumption))) am_k2 rfl (C_text hR1 ha z1 (fun L1 h1 r y1 y2 y3 => (x_k1 ?_)))
  have hR2 := hR1.up y2
  have hK2 := hR2.mk
  have hT2 := hT1.up wf y2.1 y3
  have hP2 : PsX h1 x t (a + 1) u := hP1.up (y3 _ (by omega))
  have hg : XG L h L1 h1 x 1 := ⟨y2.1, y2.2.1, y2.2.2.1, fun y q0 q1 q2 => (y3 y q0).trans (am_st_o q1)⟩
  refine x_astore_2 dX3_name_14 rfl ?_
  refine x_aload_0 dX3_name_15 ?_
  refine x_getW dX3_name_16 fl298_3 rfl (by first | (exact MkL.k_parser (by assumption)) | (assumption)) (by exact hP2.1) ?_
  refine x_aload_2 dX3_name_19 ?_
  refine x_callV1 dX3_name_20 rfl okX4_has q957 q958 q959 (by exact hT2.kt) am_k4 rfl (C_X4_has hT2 hu y1 (x_k1 ?_))
  refine x_if_eq (tgt := 32) dX3_name_23 rfl (by split <;> omega) (fun c23 => ?_) (fun c23 => ?_)
  · refine x_aload_2 dX3_name_32 ?_
    refine x_aret dX3_name_33 rfl ?_
    by_cases q : 0 ≤ fdM u (sJ b D a)
    · first
        | exact kS (a + 1) _ L1 _ r hp (by omega) hnx (hg.hh fun y q1 q2 => e1 y q1) (by
            obtain ⟨n1, n2, n3, n4, n5, n6, n7⟩ := y1
            exact ⟨n1, n2, n3, n4, n5, by rw [e1 _ (by intro z; rw [z, hK2.k_parser] at n4; omega)]; exact n6, by rw [e1 _ (by intro z; rw [z, hK2.k_parser] at n4; omega)]; exact n7⟩) (by rw [if_pos q]; exact (hT2.hh fun y q => e1 y (by intro z; rw [z, hK2.k_parser] at q; omega)).tell) (by rw [if_pos q]; exact e2)
        | (rw [if_pos q] at c23; exact absurd c23 (by decide))
    · first
        | exact kS (a + 1) _ L1 _ r hp (by omega) hnx hg y1 (by rw [if_neg q]; exact hT2) (by rw [if_neg q]; exact hP2)
        | (rw [if_neg q] at c23; exact absurd rfl c23)
  · refine x_aload_0 dX3_name_26 ?_
    refine x_iconst dX3_name_27 ?_
    refine x_iload_1 dX3_name_28 ?_
    refine x_callV2 dX3_name_29 rfl okX3_tell q780 q782 qs16 (by first | assumption | (exact MkL.k_parser (by assumption))) am_k3 rfl (C_X3_tell hK2 hP2 (by decide) (by omega) (fun h2 e1 e2 => (x_k0 ?_)))
    refine x_aload_2 dX3_name_32 ?_
    refine x_aret dX3_name_33 rfl ?_
    by_cases q : 0 ≤ fdM u (sJ b D a)
    · first
        | exact kS (a + 1) _ L1 _ r hp (by omega) hnx (hg.hh fun y q1 q2 => e1 y q1) (by
            obtain ⟨n1, n2, n3, n4, n5, n6, n7⟩ := y1
            exact ⟨n1, n2, n3, n4, n5, by rw [e1 _ (by intro z; rw [z, hK2.k_parser] at n4; omega)]; exact n6, by rw [e1 _ (by intro z; rw [z, hK2.k_parser] at n4; omega)]; exact n7⟩) (by rw [if_pos q]; exact (hT2.hh fun y q => e1 y (by intro z; rw [z, hK2.k_parser] at q; omega)).tell) (by rw [if_pos q]; exact e2)
        | (rw [if_pos q] at c23; exact absurd c23 (by decide))
    · first
        | exact kS (a + 1) _ L1 _ r hp (by omega) hnx hg y1 (by rw [if_neg q]; exact hT2) (by rw [if_neg q]; exact hP2)
        | (rw [if_neg q] at c23; exact absurd rfl c23)
theorem C_X3_known (hR : RdX L h x b D N) (ha : inN N a) (hP : PsX h x t a u) (hT : TxP L h t u) (hu : 0 ≤ tM (uT u) ∧ tM (uT u) ≤ 7)
    (kS : ∀ k a' u' L' h', pKnown (sK b D) (sJ b D) a u = .inl (k, a', u') → a < a' → inN N a' → XG L h L' h' x 1 → TxP L' h' t u' → PsX h' x t a' u' → Q (.inl [aI k]) L' h')
    (kF : ∀ n tk L' h', pKnown (sK b D) (sJ b D) a u = .inr (n, tk) → XG L h L' h' x 1 → (0 ≤ tk ∧ tk ≤ N) → FX1 h' x b D n tk → Q (.inr (x + 1)) L' h') : am_C G mX3_known (d + 10) [aR (x + 9)] L h Q := by
  have hK := hR.mk
  have ha0 := ha.1
  have ha4 := ha.2
  have hND : N ≤ 2000 := by have := hR.2.2.2.2.2.1; have := hR.2.2.1; omega
  have hx := hR.2.1
  have hrg := fdN_rg (uN u) (tM (uT u)).toNat 0 (sJ b D a)
  have hfe : fdN (uN u) (tM (uT u)).toNat 0 (sJ b D a) = fdM u (sJ b D a) := rfl
  rw [hfe] at hrg
  have hp : pKnown (sK b D) (sJ b D) a u = rb (pM (sK b D) 1 a) fun a1 => .inl (fdM u (sJ b D a), a1, if fdM u (sJ b D a) < 0 then pTell 4 a u else u) := rfl
  obtain ⟨p1, p2, p3, p4, p5⟩ := id hP
  have hbad : ∀ n, (n = 1 ∨ n = 2) → pM (sK b D) 1 a = .inr (n, a) → Q (.inr (x + 1)) L (fltH h x n (sP b D a)) := fun n z1 z2 => kF n a _ _ (by rw [hp, z2, rb_r]) ((XG.rf L h x).flt.le (by omega)) ha0 ⟨fltH_6, fltH_7⟩
  refine x_start okX3_known rfl rfl rfl rfl ?_
  refine x_aload_0 dX3_known_0 ?_
  refine x_iconst dX3_known_1 ?_
  refine x_callV1 dX3_known_2 rfl okX3_take q772 q774 qs15 (by first | assumption | (exact MkL.k_parser (by assumption))) am_k3 rfl (C_X3_take (kk := 1) hR p2 ha (Or.inl ⟨rfl, rfl⟩) (fun z1 z2 => (x_k1 ?_)) (fun z1 => x_kx ⟨hK.k_fault, hbad 1 (Or.inl rfl) (pM_1 z1)⟩) (fun z1 z2 => x_kx ⟨hK.k_fault, hbad 2 (Or.inr rfl) (pM_2 z1 z2)⟩))
  refine am_wf fun wf => ?_
  rw [pM_ok z1 z2, rb_l] at hp
  have hR1 : RdX L (am_st h (x + 9) 3 (a + 1)) x b D N := hR.st9
  have hP1 : PsX (am_st h (x + 9) 3 (a + 1)) x t (a + 1) u := ⟨by rw [am_st_i (by decide)]; exact p1, am_st_s, by rw [am_st_i (by decide)]; exact p3, by rw [am_st_i (by decide)]; exact p4, by rw [am_st_i (by decide)]; exact p5⟩
  have hnx := hR.nx ha (by omega) (by omega) z2
  have hT1 : TxP L (am_st h (x + 9) 3 (a + 1)) t u := hT.hh fun y q => am_st_o (by intro z; rw [z, hK.k_parser] at q; omega)
  refine x_istore_1 dX3_known_5 rfl ?_
  refine x_aload_0 dX3_known_6 ?_
  refine x_getW dX3_known_7 fl298_3 rfl (by first | (exact MkL.k_parser (by assumption)) | (assumption)) (by exact hP1.1) ?_
  refine x_aload_0 dX3_known_10 ?_
  refine x_getR dX3_known_11 fl296_3 rfl (by first | (exact MkL.k_parser (by assumption)) | (assumption)) (by first | (exact MkL.v_t (by assumption)) | (assumption)) ?_
  refine x_iload_1 dX3_known_14 ?_
  refine x_callV1 dX3_known_15 rfl okX2_text q795 q796 q797 (by first | assumption | (exact MkL.k_tokens (by assumption))) am_k2 rfl (C_text hR1 ha z1 (fun L1 h1 r y1 y2 y3 => (x_k1 ?_)))
  have hR2 := hR1.up y2
  have hK2 := hR2.mk
  have hT2 := hT1.up wf y2.1 y3
  have hP2 : PsX h1 x t (a + 1) u := hP1.up (y3 _ (by omega))
  have hg : XG L h L1 h1 x 1 := ⟨y2.1, y2.2.1, y2.2.2.1, fun y q0 q1 q2 => (y3 y q0).trans (am_st_o q1)⟩
  refine x_callV1 dX3_known_18 rfl okX4_at q1078 q962 q963 (by exact hT2.kt) am_k4 rfl (C_X4_at hT2 hu y1 (x_k1 ?_))
  refine x_istore_2 dX3_known_21 rfl ?_
  refine x_iload_2 dX3_known_22 ?_
  refine x_if_ge (tgt := 32) dX3_known_23 rfl (by omega) (fun c23 => ?_) (fun c23 => ?_)
  · refine x_iload_2 dX3_known_32 ?_
    refine x_iret dX3_known_33 rfl ?_
    first
    | exact kS _ (a + 1) _ L1 _ hp (by omega) hnx (hg.hh fun y q1 q2 => e1 y q1) (by rw [if_pos (by omega)]; exact (hT2.hh fun y q => e1 y (by intro z; rw [z, hK2.k_parser] at q; omega)).tell) (by rw [if_pos (by omega)]; exact e2)
    | exact kS _ (a + 1) _ L1 _ hp (by omega) hnx hg (by rw [if_neg (by omega)]; exact hT2) (by rw [if_neg (by omega)]; exact hP2)
  · refine x_aload_0 dX3_known_26 ?_
    refine x_iconst dX3_known_27 ?_
    refine x_iload_1 dX3_known_28 ?_
    refine x_callV2 dX3_known_29 rfl okX3_tell q780 q782 qs16 (by first | assumption | (exact MkL.k_parser (by assumption))) am_k3 rfl (C_X3_tell hK2 hP2 (by decide) (by omega) (fun h2 e1 e2 => (x_k0 ?_)))
    refine x_iload_2 dX3_known_32 ?_
    refine x_iret dX3_known_33 rfl ?_
    first
    | exact kS _ (a + 1) _ L1 _ hp (by omega) hnx (hg.hh fun y q1 q2 => e1 y q1) (by rw [if_pos (by omega)]; exact (hT2.hh fun y q => e1 y (by intro z; rw [z, hK2.k_parser] at q; omega)).tell) (by rw [if_pos (by omega)]; exact e2)
    | exact kS _ (a + 1) _ L1 _ hp (by omega) hnx hg (by rw [if_neg (by omega)]; exact hT2) (by rw [if_neg (by omega)]; exact hP2)
theorem C_J5_grow_2 (hk : kd L c = 20) (h200 : 200 ≤ c) (h1 : fF L c 1 = 1) (hl : kd L 1 = 116) (hln : ln L 1 = 0) (hcn : c < nx L) (k : Q (.inl [aR (nx L)]) (am_pf (am_al L 116 10) c 1 (nx L)) h) : am_C G mJ5_grow_2 (d + 2) [aR c, aI 1] L h Q := by
  refine x_start okJ5_grow_2 rfl rfl rfl rfl ?_
  refine x_aload_0 dJ5_grow_2_0 ?_
  refine x_getR dJ5_grow_2_1 fl338_20 rfl (by first | (exact TxL.kl (by assumption)) | (first | assumption | (simp only [kd_pf, kd_al, nx_pf, nx_al, true_and, and_true]; (repeat (first | rw [if_neg (by omega)] | rw [if_pos (by omega)] | rw [if_pos trivial])); first | done | assumption | rfl))) (by exact h1) ?_
  refine x_alen dJ5_grow_2_4 (by first | assumption | (simp only [kd_pf, kd_al, nx_pf, nx_al, true_and, and_true]; (repeat (first | rw [if_neg (by omega)] | rw [if_pos (by omega)] | rw [if_pos trivial])); first | done | assumption | rfl)) (by decide) (by decide) ?_
  rw [hln]
  refine x_istore_2 dJ5_grow_2_5 rfl ?_
  refine x_iload_2 dJ5_grow_2_6 ?_
  refine x_if_gt (tgt := 20) dJ5_grow_2_7 rfl (by omega) (fun c7 => ?_) (fun c7 => ?_)
  · exact absurd c7 (by decide)
  · refine x_aload_0 dJ5_grow_2_10 ?_
    refine x_getR dJ5_grow_2_11 fl338_20 rfl (by first | (exact TxL.kl (by assumption)) | (first | assumption | (simp only [kd_pf, kd_al, nx_pf, nx_al, true_and, and_true]; (repeat (first | rw [if_neg (by omega)] | rw [if_pos (by omega)] | rw [if_pos trivial])); first | done | assumption | rfl))) (by exact h1) ?_
    refine x_gets dJ5_grow_2_14 q336 am_z2 ?_
    refine x_acmp_eqY (tgt := 45) dJ5_grow_2_17 rfl  ?_
    refine x_aload_0 dJ5_grow_2_45 ?_
    refine x_bipush dJ5_grow_2_46 rfl ?_
    refine x_iload_1 dJ5_grow_2_48 ?_
    refine x_mmax dJ5_grow_2_49 q1072 q566 q135 q567 rfl (by omega) (by omega) ?_
    rw [if_neg (by decide)]
    refine x_newA (k := 116) dJ5_grow_2_52 (by decide) (by decide) rfl q1073 q1070 (by omega) (fun z52 => ?_)
    refine x_dup_x1 dJ5_grow_2_55 rfl rfl ?_
    refine x_putFR dJ5_grow_2_56 fl338_20 rfl trivial (by first | (exact TxL.kl (by assumption)) | (first | assumption | (simp only [kd_pf, kd_al, nx_pf, nx_al, true_and, and_true]; (repeat (first | rw [if_neg (by omega)] | rw [if_pos (by omega)] | rw [if_pos trivial])); first | done | assumption | rfl))) (by omega) ?_
    refine x_aretA dJ5_grow_2_59 rfl ?_
    exact k
theorem C_J5_grow (hk : kd L c = 20) (h200 : 200 ≤ c) (h1 : fF L c 1 = 1) (h2 : fF L c 2 = 0) (hl : kd L 1 = 116) (hln : ln L 1 = 0) (hcn : c < nx L) (k : Q (.inl [aR (nx L)]) (am_pf (am_al L 116 10) c 1 (nx L)) h) : am_C G mJ5_grow (d + 3) [aR c] L h Q := by
  refine x_start okJ5_grow rfl rfl rfl rfl ?_
  refine x_aload_0 dJ5_grow_0 ?_
  refine x_aload_0 dJ5_grow_1 ?_
  refine x_getKI dJ5_grow_2 fl339_20 (by first | (exact TxL.kl (by assumption)) | (first | assumption | (simp only [kd_pf, kd_al, nx_pf, nx_al, true_and, and_true]; (repeat (first | rw [if_neg (by omega)] | rw [if_pos (by omega)] | rw [if_pos trivial])); first | done | assumption | rfl))) (by exact h2) (fun r2 => ?_)
  refine x_iconst dJ5_grow_5 ?_
  refine x_iadd dJ5_grow_6 ?_
  refine x_callV1 dJ5_grow_7 rfl okJ5_grow_2 q1033 q1035 qs21 (by first | first | assumption | (simp only [kd_pf, kd_al, nx_pf, nx_al, true_and, and_true]; (repeat (first | rw [if_neg (by omega)] | rw [if_pos (by omega)] | rw [if_pos trivial])); first | done | assumption | rfl) | (exact TxL.kl (by assumption))) am_k20 rfl (C_J5_grow_2 hk h200 h1 hl hln hcn (x_k1 ?_))
  refine x_aretA dJ5_grow_10 rfl ?_
  exact k
theorem C_J5_add_2 {e m : Int} (hk : kd L c = 20) (h200 : 200 ≤ c) (h1 : fF L c 1 = l) (h2 : fF L c 2 = m) (hm : 0 ≤ m ∧ m ≤ 9) (hl : kd L l = 116) (hv : kd L e = 14) (hcn : c < nx L ∧ e < nx L) (hcase : (m = 0 ∧ l = 1 ∧ ln L l = 0) ∨ (200 ≤ l ∧ ln L l = 10))
    (k1 : m = 0 ∧ l = 1 ∧ ln L l = 0 → Q (.inl []) (am_pf (am_pf (am_pf (am_al L 116 10) c 1 (nx L)) (nx L) m e) c 2 (m + 1)) h)
    (k2 : 200 ≤ l ∧ ln L l = 10 → Q (.inl []) (am_pf (am_pf L l m e) c 2 (m + 1)) h) : am_C G mJ5_add_2 (d + 4) [aR c, aR e, aR l, aI m] L h Q := by
  rcases hcase with q | q
  · obtain ⟨q1, q2, q3⟩ := id q
    subst q1
    subst q2
    have h11 : am_X G mJ5_add_2 (d + 4) 11 [aR c, aR e, aR (nx L), aI 0] [] (am_pf (am_al L 116 10) c 1 (nx L)) h Q := by
      refine x_aload_2 dJ5_add_2_11 ?_
      refine x_iload_3 dJ5_add_2_12 ?_
      refine x_aload_1 dJ5_add_2_13 ?_
      refine x_aast (k := 116) (a := nx L) dJ5_add_2_14 (by rw [kd_pf, kd_al, if_pos rfl]) (by decide) (by decide) (by omega) (by rw [ln_pf, ln_al, if_pos rfl]; decide) rfl (by rw [kd_pf, kd_al, if_neg (by omega)]; exact hv) am_k14 (Or.inl q2260) ?_
      refine x_aload_0 dJ5_add_2_15 ?_
      refine x_iload_3 dJ5_add_2_16 ?_
      refine x_iconst dJ5_add_2_17 ?_
      refine x_iadd dJ5_add_2_18 ?_
      refine x_putFI dJ5_add_2_19 fl339_20 (by first | (exact TxL.kl (by assumption)) | (first | assumption | (simp only [kd_pf, kd_al, nx_pf, nx_al, true_and, and_true]; (repeat (first | rw [if_neg (by omega)] | rw [if_pos (by omega)] | rw [if_pos trivial])); first | done | assumption | rfl))) (by omega) (by omega) ?_
      refine x_ret dJ5_add_2_22 rfl ?_
      exact k1 q
    refine x_start okJ5_add_2 rfl rfl rfl rfl ?_
    refine x_iload_3 dJ5_add_2_0 ?_
    refine x_aload_2 dJ5_add_2_1 ?_
    refine x_alen dJ5_add_2_2 (by first | assumption | (simp only [kd_pf, kd_al, nx_pf, nx_al, true_and, and_true]; (repeat (first | rw [if_neg (by omega)] | rw [if_pos (by omega)] | rw [if_pos trivial])); first | done | assumption | rfl)) (by decide) (by decide) ?_
    rw [q3]
    refine x_icmp_ne (tgt := 11) dJ5_add_2_3 rfl (by omega) (by omega) (fun c3 => ?_) (fun c3 => ?_)
    · first
      | exact absurd rfl c3
      | exact h11
    · refine x_aload_0 dJ5_add_2_6 ?_
      refine x_callV0 dJ5_add_2_7 rfl okJ5_grow q1029 q1031 qs20 (by first | first | assumption | (simp only [kd_pf, kd_al, nx_pf, nx_al, true_and, and_true]; (repeat (first | rw [if_neg (by omega)] | rw [if_pos (by omega)] | rw [if_pos trivial])); first | done | assumption | rfl) | (exact TxL.kl (by assumption))) am_k20 rfl (C_J5_grow hk h200 h1 h2 hl q3 hcn.1 (x_k1 ?_))
      refine x_astore_2 dJ5_add_2_10 rfl ?_
      first
      | exact absurd rfl c3
      | exact h11
  · refine x_start okJ5_add_2 rfl rfl rfl rfl ?_
    refine x_iload_3 dJ5_add_2_0 ?_
    refine x_aload_2 dJ5_add_2_1 ?_
    refine x_alen dJ5_add_2_2 (by first | assumption | (simp only [kd_pf, kd_al, nx_pf, nx_al, true_and, and_true]; (repeat (first | rw [if_neg (by omega)] | rw [if_pos (by omega)] | rw [if_pos trivial])); first | done | assumption | rfl)) (by decide) (by decide) ?_
    rw [q.2]
    refine x_icmp_ne (tgt := 11) dJ5_add_2_3 rfl (by omega) (by omega) (fun c3 => ?_) (fun c3 => ?_)
    · refine x_aload_2 dJ5_add_2_11 ?_
      refine x_iload_3 dJ5_add_2_12 ?_
      refine x_aload_1 dJ5_add_2_13 ?_
      refine x_aast (k := 116) (a := l) dJ5_add_2_14 hl (by decide) (by decide) q.1 (by rw [q.2]; omega) rfl hv am_k14 (Or.inl q2260) ?_
      refine x_aload_0 dJ5_add_2_15 ?_
      refine x_iload_3 dJ5_add_2_16 ?_
      refine x_iconst dJ5_add_2_17 ?_
      refine x_iadd dJ5_add_2_18 ?_
      refine x_putFI dJ5_add_2_19 fl339_20 (by first | (exact TxL.kl (by assumption)) | (first | assumption | (simp only [kd_pf, kd_al, nx_pf, nx_al, true_and, and_true]; (repeat (first | rw [if_neg (by omega)] | rw [if_pos (by omega)] | rw [if_pos trivial])); first | done | assumption | rfl))) (by omega) (by omega) ?_
      refine x_ret dJ5_add_2_22 rfl ?_
      exact k2 q
    · exfalso; omega
/-- one more in a list that has room, or is empty yet -/
theorem C_J5_add {e m : Int} (hk : kd L c = 20) (h200 : 200 ≤ c) (h1 : fF L c 1 = l) (h2 : fF L c 2 = m) (h0 : fF L c 0 = m) (hm : 0 ≤ m ∧ m ≤ 9) (hl : kd L l = 116) (hv : kd L e = 14) (hcn : c < nx L ∧ e < nx L) (hlc : l ≠ c) (hcase : (m = 0 ∧ l = 1 ∧ ln L l = 0) ∨ (200 ≤ l ∧ ln L l = 10))
    (k1 : m = 0 ∧ l = 1 ∧ ln L l = 0 → Q (.inl [aI 1]) (am_pf (am_pf (am_pf (am_al (am_pf L c 0 (m + 1)) 116 10) c 1 (nx L)) (nx L) m e) c 2 (m + 1)) h)
    (k2 : 200 ≤ l ∧ ln L l = 10 → Q (.inl [aI 1]) (am_pf (am_pf (am_pf L c 0 (m + 1)) l m e) c 2 (m + 1)) h) : am_C G mJ5_add (d + 5) [aR c, aR e] L h Q := by
  have f1 : fF (am_pf L c 0 (m + 1)) c 1 = l := by rw [fF_pf, if_neg (by omega)]; exact h1
  have f2 : fF (am_pf L c 0 (m + 1)) c 2 = m := by rw [fF_pf, if_neg (by omega)]; exact h2
  refine x_start okJ5_add rfl rfl rfl rfl ?_
  refine x_aload_0 dJ5_add_0 ?_
  refine x_dup dJ5_add_1 rfl ?_
  refine x_getInh dJ5_add_2 fl340_20 modC rfl hk h0 fun z9 => ?_
  refine x_iconst dJ5_add_5 ?_
  refine x_iadd dJ5_add_6 ?_
  refine x_putInh (t := .int) (v := m + 1) dJ5_add_7 fl340_20 modC hk h200 (by unfold am_rg; omega) ?_
  refine x_aload_0 dJ5_add_10 ?_
  refine x_aload_1 dJ5_add_11 ?_
  refine x_aload_0 dJ5_add_12 ?_
  refine x_getR dJ5_add_13 fl338_20 rfl (by first | (exact TxL.kl (by assumption)) | (first | assumption | (simp only [kd_pf, kd_al, nx_pf, nx_al, true_and, and_true]; (repeat (first | rw [if_neg (by omega)] | rw [if_pos (by omega)] | rw [if_pos trivial])); first | done | assumption | rfl))) (by exact f1) ?_
  refine x_aload_0 dJ5_add_16 ?_
  refine x_getKI dJ5_add_17 fl339_20 (by first | (exact TxL.kl (by assumption)) | (first | assumption | (simp only [kd_pf, kd_al, nx_pf, nx_al, true_and, and_true]; (repeat (first | rw [if_neg (by omega)] | rw [if_pos (by omega)] | rw [if_pos trivial])); first | done | assumption | rfl))) (by exact f2) (fun r17 => ?_)
  refine x_callV3 dJ5_add_20 rfl okJ5_add_2 q1025 q1027 qs19 (by first | first | assumption | (simp only [kd_pf, kd_al, nx_pf, nx_al, true_and, and_true]; (repeat (first | rw [if_neg (by omega)] | rw [if_pos (by omega)] | rw [if_pos trivial])); first | done | assumption | rfl) | (exact TxL.kl (by assumption))) am_k20 rfl (C_J5_add_2 (L := am_pf L c 0 (m + 1)) hk h200 f1 f2 hm hl hv hcn hcase (fun z => (x_k0 ?_)) (fun z => (x_k0 ?_)))
  · refine x_iconst dJ5_add_23 ?_
    refine x_zret dJ5_add_24 rfl (by omega) ?_
    first
    | exact k1 z
    | exact k2 z
  · refine x_iconst dJ5_add_23 ?_
    refine x_zret dJ5_add_24 rfl (by omega) ?_
    first
    | exact k1 z
    | exact k2 z
end XTOLD2
