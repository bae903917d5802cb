/-! LAWS: sums as what they tell, Law.of -/
set_option maxRecDepth 100000
/-- an int as the machine keeps it -/
def wr (z : Int) : Int := (Int32.ofInt z).toInt
theorem wr_rg (z : Int) : rg32 (wr z) := ⟨by have := Int32.le_toInt (Int32.ofInt z); unfold wr; omega, by have := Int32.toInt_lt (Int32.ofInt z); unfold wr; omega⟩
theorem wr_id {z : Int} (h : rg32 z) : wr z = z := am_ti h
/-- what a sum tells of six numbers; whether something is divided by nought (1) -/
abbrev Tau : Type := (Int → Int) → Int × Int
def jnT (op : Int) (a b : Tau) : Tau := fun v =>
  if op = 43 then (wr ((a v).1 + (b v).1), if (a v).2 = 1 ∨ (b v).2 = 1 then 1 else 0)
  else if op = 45 then (wr ((a v).1 - (b v).1), if (a v).2 = 1 ∨ (b v).2 = 1 then 1 else 0)
  else if op = 42 then (wr ((a v).1 * (b v).1), if (a v).2 = 1 ∨ (b v).2 = 1 then 1 else 0)
  else if (b v).1 = 0 then (0, 1) else (bDiv (a v).1 (b v).1, if (a v).2 = 1 ∨ (b v).2 = 1 then 1 else 0)
/-- the sum at a tells ta (n: how deep) -/
def SumN : Nat → am_L → Int → Tau → Prop
  | 0, _, _, _ => False
  | n + 1, L, a, ta => (kd L a = 17 ∧ ta = fun _ => (fF L a 0, 0)) ∨ (kd L a = 18 ∧ (0 ≤ fF L a 0 ∧ fF L a 0 < 6) ∧ ta = fun v => (v (fF L a 0), 0)) ∨
    (kd L a = 19 ∧ ∃ t1 t2 : Tau, SumN n L (fF L a 1) t1 ∧ SumN n L (fF L a 2) t2 ∧ ta = jnT (fF L a 0) t1 t2)
theorem SumN.mono {L : am_L} : ∀ (n : Nat) {a : Int} {ta : Tau}, SumN n L a ta → SumN (n + 1) L a ta
  | 0, _, _, h => h.elim
  | n + 1, a, ta, h => by
    rcases h with h | h | ⟨h1, t1, t2, h2, h3, h4⟩
    · exact Or.inl h
    · exact Or.inr (Or.inl h)
    · exact Or.inr (Or.inr ⟨h1, t1, t2, SumN.mono n h2, SumN.mono n h3, h4⟩)
theorem SumN.le {L : am_L} {a : Int} {ta : Tau} {n m : Nat} (h : n ≤ m) (hs : SumN n L a ta) : SumN m L a ta := by
  induction h with
  | refl => exact hs
  | step _ ih => exact SumN.mono _ ih
/-- six numbers of a man, as they are asked for -/
def v6 (v : Int → Int) : Prop := ∀ i, rg32 (v i)
theorem tau_rg {L : am_L} {h : am_H} (wf : am_Wf L h) : ∀ (n : Nat) {a : Int} {ta : Tau}, SumN n L a ta → ∀ v : Int → Int, v6 v → rg32 (ta v).1 ∧ ((ta v).2 = 0 ∨ (ta v).2 = 1)
  | 0, _, _, h => h.elim
  | n + 1, a, ta, hs => fun v hv => by
    rcases hs with ⟨h1, rfl⟩ | ⟨h1, h2, rfl⟩ | ⟨h1, t1, t2, h2, h3, rfl⟩
    · refine ⟨?_, Or.inl rfl⟩
      have := wf.2.2.2 a 0
      rw [show am_ct L h a 0 = fF L a 0 from if_pos (by rw [h1]; rfl), show am_ty (kd L a) 0 = .int by rw [h1]; rfl] at this
      exact this
    · exact ⟨hv _, Or.inl rfl⟩
    · obtain ⟨a1, a2⟩ := tau_rg wf n h2 v hv
      obtain ⟨b1, b2⟩ := tau_rg wf n h3 v hv
      unfold jnT
      have e0 : ∀ z : Prop, ∀ [Decidable z], (if z then (1 : Int) else 0) = 0 ∨ (if z then (1 : Int) else 0) = 1 := fun z _ => by split <;> simp
      split
      · exact ⟨wr_rg _, e0 _⟩
      · split
        · exact ⟨wr_rg _, e0 _⟩
        · split
          · exact ⟨wr_rg _, e0 _⟩
          · split
            · exact ⟨⟨by decide, by decide⟩, Or.inr rfl⟩
            · exact ⟨bDiv_rg _ _, e0 _⟩
/-- 'divided by nought' is noted at q -/
def ngt (h : am_H) (q b : Int) : am_H := if b = 1 then am_st h q 1 1 else h
theorem ngt_ne (h : am_H) {q b a : Int} (hne : a ≠ q) : ngt h q b a = h a := by
  unfold ngt
  split
  · funext j
    rw [am_st_at, if_neg (fun z => hne z.1)]
  · rfl
theorem ngt_ngt (h : am_H) (q b c : Int) : ngt (ngt h q b) q c = ngt h q (if b = 1 ∨ c = 1 then 1 else 0) := by
  unfold ngt
  by_cases hb : b = 1
  · by_cases hc : c = 1
    · simp only [hb, hc, or_self, if_true]
      funext x j
      simp only [am_st_at]
      split <;> rfl
    · simp [hb, hc]
  · by_cases hc : c = 1
    · simp [hb, hc]
    · simp [hb, hc]
theorem ngt_st (h : am_H) (q b : Int) : am_st (ngt h q b) q 1 1 = ngt h q 1 := by
  have := ngt_ngt h q b 1
  rw [if_pos (Or.inr rfl)] at this
  rw [← this]
  unfold ngt
  rfl
/-- the contents of arrays that are written -/
theorem am_ctM {L : am_L} {h : am_H} {a : Int} {k : Nat} (hk : kd L a = k) (h1 : 100 ≤ k) (h2 : k < 110) (j : Int) : am_ct L h a j = h a j ∧ am_ty (kd L a) j = am_aty k := by
  obtain ⟨e1, e2⟩ := am_aimm (x := j) hk h1
  exact ⟨if_neg (by rw [e1]; simp; omega), e2⟩
theorem am_rgI {L : am_L} {h : am_H} (wf : am_Wf L h) {a : Int} (hk : kd L a = 100) (j : Int) : rg32 (h a j) := by
  have := wf.2.2.2 a j
  rw [(am_ctM hk (by decide) (by decide) j).1, (am_ctM (h := h) hk (by decide) (by decide) j).2] at this
  exact this
section LAW
variable {G : am_G} {M : am_M} {d pc : Nat} {ls st rest : List AV} {L : am_L} {h : am_H} {Q : am_O → am_L → am_H → Prop}
theorem am_C_wf {args : List AV} (k : am_Wf L h → am_C G M d args L h Q) : am_C G M d args L h Q := fun w => k w w
theorem x_wr {z : Int} (k : am_X G M d pc ls (aI (wr z) :: st) L h Q) : am_X G M d pc ls (aI z :: st) L h Q :=
  am_lift (fun p e R s m args below meth c S H locs cells slots lsR Qf hR hL w => by
    rw [List.map_cons, show am_cv G (aI z) = am_cv G (aI (wr z)) from by rw [am_cvI, am_cvI]; unfold wr; rw [Int32.ofInt_toInt]]
    exact w) k
theorem x_cs {x : Int} (v : Int) (kt : x = v → am_X G M d pc ls (aI x :: st) L h Q) (kf : x ≠ v → am_X G M d pc ls (aI x :: st) L h Q) : am_X G M d pc ls (aI x :: st) L h Q := by
  by_cases e : x = v
  · exact kt e
  · exact kf e
/-- the contract of whatever sum stands at a -/
def ofC (G : am_G) (L : am_L) (n : Nat) (a : Int) (ta : Tau) : Prop := ∀ (d : Nat) (h : am_H) (Q : am_O → am_L → am_H → Prop) (q A : Int), kd L q = 6 → fF L q 0 = A → kd L A = 100 → ln L A = 6 → A ≠ q → Q (.inl [aI (ta (h A)).1]) L (ngt h q (ta (h A)).2) →
  (kd L a = 17 → am_C G mX17_of (d + n) [aR a, aR q] L h Q) ∧ (kd L a = 18 → am_C G mX18_of (d + n) [aR a, aR q] L h Q) ∧ (kd L a = 19 → am_C G mX19_of (d + n) [aR a, aR q] L h Q)
/-- through Sum.of, from Joined or Law -/
theorem x_sumof {i n N' : Nat} {a q A : Int} {ta : Tau} (hd : decode M.2.1 pc = .ok (.invokevirtual i, 3)) (hM : M.2.2.2.2 = []) (hl : Cond.methodLink M.1.cls i ⟨"ThreadTown$Sum", "of", "(LThreadTown$Asked;)I"⟩ ∈ lw_all) (hs : SumN N' L a ta) (hC : ofC G L n a ta) (k6 : kd L q = 6) (f6 : fF L q 0 = A) (kA : kd L A = 100) (lA : ln L A = 6) (hne : A ≠ q) (hrest : am_Sm rest = true)
    (kk : am_X G M (d + n + 1) (pc + 3) ls (aI (ta (h A)).1 :: rest) L (ngt h q (ta (h A)).2) Q) : am_X G M (d + n + 1) pc ls (aR q :: aR a :: rest) L h Q := by
  obtain ⟨c1, c2, c3⟩ := hC d h (am_K G M (d + n + 1) pc ls rest Q) q A k6 f6 kA lA hne (x_k1 kk)
  have hk : kd L a = 17 ∨ kd L a = 18 ∨ kd L a = 19 := by
    match N', hs with
    | 0, hs => exact hs.elim
    | n + 1, hs => rcases hs with hs | hs | hs <;> simp [hs.1]
  have ho : ("ThreadTown$Sum" : String) ≠ "java/lang/invoke/MethodHandle" ∧ ("ThreadTown$Sum" : String) ≠ "java/lang/invoke/VarHandle" ∧ (parseMethodDescriptor "(LThreadTown$Asked;)I").map (fun d => d.parameters.length) = some 1 := ⟨by decide, by decide, by decide +kernel⟩
  rcases hk with hk | hk | hk
  · exact x_callA1 hd hM okX17_of hl q554 q553 ho q559 q563 hk am_k17 hrest (c1 hk)
  · exact x_callA1 hd hM okX18_of hl q554 q553 ho q561 q564 hk am_k18 hrest (c2 hk)
  · exact x_callA1 hd hM okX19_of hl q554 q553 ho q556 q555 hk am_k19 hrest (c3 hk)
set_option maxHeartbeats 4000000 in
theorem C_of : ∀ (n : Nat) {a : Int} {ta : Tau}, SumN n L a ta → ofC G L n a ta
  | 0, _, _, h => h.elim
  | n + 1, a, ta, hs => by
    intro d h Q q A k6 f6 kA lA hne k
    refine ⟨fun hk => ?_, fun hk => ?_, fun hk => ?_⟩
    · rcases hs with ⟨h1, rfl⟩ | ⟨h1, -⟩ | ⟨h1, -⟩
      · refine x_start okX17_of rfl rfl rfl rfl ?_
        refine x_aload_0 dX17_of_0 ?_
        refine x_getKI dX17_of_1 fl1141_17 (by first | assumption | omega) (by rfl) (fun r1 => ?_)
        refine x_iret dX17_of_4 rfl ?_
        exact k
      · omega
      · omega
    · rcases hs with ⟨h1, -⟩ | ⟨h1, h2, rfl⟩ | ⟨h1, -⟩
      · omega
      · refine x_start okX18_of rfl rfl rfl rfl ?_
        refine x_aload_1 dX18_of_0 ?_
        refine x_getR dX18_of_1 fl422_6 rfl (by first | assumption | omega) (by assumption) ?_
        refine x_aload_0 dX18_of_4 ?_
        refine x_getKI dX18_of_5 fl1151_18 (by first | assumption | omega) (by rfl) (fun r5 => ?_)
        refine x_iald_ dX18_of_8 (by first | assumption | omega) (by omega) (fun r8 => ?_)
        refine x_iret dX18_of_9 rfl ?_
        exact k
      · omega
    · rcases hs with ⟨h1, -⟩ | ⟨h1, -⟩ | ⟨h1, t1, t2, h2, h3, rfl⟩
      · omega
      · omega
      · refine am_C_wf fun wf => x_start okX19_of rfl rfl rfl rfl ?_
        have hE : v6 (h A) := fun i => am_rgI wf kA i
        obtain ⟨b1, b2⟩ := tau_rg wf n h2 (h A) hE
        obtain ⟨b3, b4⟩ := tau_rg wf n h3 (h A) hE
        have e1 : ngt h q (t1 (h A)).2 A = h A := ngt_ne h hne
        rw [show jnT (fF L a 0) t1 t2 = fun v => jnT (fF L a 0) t1 t2 v from rfl] at k
        refine x_aload_0 dX19_of_0 ?_
        refine x_getR dX19_of_1 fl1162_19 rfl (by first | assumption | omega) (by rfl) ?_
        refine x_aload_1 dX19_of_4 ?_
        refine x_sumof dX19_of_5 rfl q558 h2 (C_of n h2) k6 f6 kA lA hne rfl ?_
        refine x_istore_2 dX19_of_8 rfl ?_
        refine x_aload_0 dX19_of_9 ?_
        refine x_getR dX19_of_10 fl1163_19 rfl (by first | assumption | omega) (by rfl) ?_
        refine x_aload_1 dX19_of_13 ?_
        refine x_sumof dX19_of_14 rfl q558 h3 (C_of n h3) k6 f6 kA lA hne rfl ?_
        refine x_istore_3 dX19_of_17 rfl ?_
        rw [e1, ngt_ngt]
        refine x_aload_0 dX19_of_18 ?_
        refine x_getKI dX19_of_19 fl1161_19 (by first | assumption | omega) (by rfl) (fun r19 => ?_)
        refine x_cs (42) (fun c22 => ?_) (fun c22_42 => ?_)
        · refine x_tableIn (off := 38) (tgt := 60) dX19_of_22 (by omega) (by omega) (by omega) (by rw [c22]; rfl) rfl ?_
          refine x_iload_2 dX19_of_60 ?_
          refine x_iload_3 dX19_of_61 ?_
          refine x_imul dX19_of_62 ?_
          refine x_wr ?_
          refine x_iret dX19_of_63 rfl ?_
          simpa [jnT, c22] using k
        refine x_cs (43) (fun c22 => ?_) (fun c22_43 => ?_)
        · refine x_tableIn (off := 30) (tgt := 52) dX19_of_22 (by omega) (by omega) (by omega) (by rw [c22]; rfl) rfl ?_
          refine x_iload_2 dX19_of_52 ?_
          refine x_iload_3 dX19_of_53 ?_
          refine x_iadd dX19_of_54 ?_
          refine x_wr ?_
          refine x_iret dX19_of_55 rfl ?_
          simpa [jnT, c22] using k
        refine x_cs (45) (fun c22 => ?_) (fun c22_45 => ?_)
        · refine x_tableIn (off := 34) (tgt := 56) dX19_of_22 (by omega) (by omega) (by omega) (by rw [c22]; rfl) rfl ?_
          refine x_iload_2 dX19_of_56 ?_
          refine x_iload_3 dX19_of_57 ?_
          refine x_isub dX19_of_58 ?_
          refine x_wr ?_
          refine x_iret dX19_of_59 rfl ?_
          simpa [jnT, c22] using k
        refine x_cs (44) (fun c22 => ?_) (fun c22_44 => ?_)
        · refine x_tableIn (off := 42) (tgt := 64) dX19_of_22 (by omega) (by omega) (by omega) (by rw [c22]; rfl) rfl ?_
          refine x_iload_3 dX19_of_64 ?_
          refine x_if_eq (tgt := 72) dX19_of_65 rfl (by omega) (fun c65 => ?_) (fun c65 => ?_)
          · refine x_aload_1 dX19_of_72 ?_
            refine x_iconst dX19_of_73 ?_
            refine x_putZ_ dX19_of_74 fl425_6 (by first | assumption | omega) (by omega) ?_
            refine x_iconst dX19_of_77 ?_
            refine x_iret dX19_of_78 rfl ?_
            rw [ngt_st]
            simpa [jnT, *] using k
          · refine x_iload_2 dX19_of_68 ?_
            refine x_iload_3 dX19_of_69 ?_
            refine x_idiv dX19_of_70 (by omega) (by omega) ?_
            refine x_iret dX19_of_71 rfl ?_
            simpa [jnT, *] using k
        refine x_tableOut (tgt := 64) dX19_of_22 (by omega) (by omega) rfl ?_
        refine x_iload_3 dX19_of_64 ?_
        refine x_if_eq (tgt := 72) dX19_of_65 rfl (by omega) (fun c65 => ?_) (fun c65 => ?_)
        · refine x_aload_1 dX19_of_72 ?_
          refine x_iconst dX19_of_73 ?_
          refine x_putZ_ dX19_of_74 fl425_6 (by first | assumption | omega) (by omega) ?_
          refine x_iconst dX19_of_77 ?_
          refine x_iret dX19_of_78 rfl ?_
          rw [ngt_st]
          simpa [jnT, *] using k
        · refine x_iload_2 dX19_of_68 ?_
          refine x_iload_3 dX19_of_69 ?_
          refine x_idiv dX19_of_70 (by omega) (by omega) ?_
          refine x_iret dX19_of_71 rfl ?_
          simpa [jnT, *] using k
end LAW
