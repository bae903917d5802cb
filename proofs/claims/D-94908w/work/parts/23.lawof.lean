/-! Law.of -/
set_option maxRecDepth 100000
/-- from the k-th if on, r of them left, b: something was divided by nought so far -/
def lawGo (tl tt te : Int → Tau) (v : Int → Int) : Nat → Int → Int → Int × Int
  | 0, k, b => ((te k v).1, if b = 1 ∨ (te k v).2 = 1 then 1 else 0)
  | r + 1, k, b => if (tt k v).1 ≤ (tl k v).1 then lawGo tl tt te v r (k + 1) (if (if b = 1 ∨ (tl k v).2 = 1 then (1 : Int) else 0) = 1 ∨ (tt k v).2 = 1 then 1 else 0)
    else ((te k v).1, if (if (if b = 1 ∨ (tl k v).2 = 1 then (1 : Int) else 0) = 1 ∨ (tt k v).2 = 1 then (1 : Int) else 0) = 1 ∨ (te k v).2 = 1 then 1 else 0)
def lamOf (n : Int) (tl tt te : Int → Tau) : Lam := fun v => if (lawGo tl tt te v n.toNat 0 0).2 = 1 then 0 else if (lawGo tl tt te v n.toNat 0 0).1 < 0 then 0 else (lawGo tl tt te v n.toNat 0 0).1
/-- the law at l tells la -/
def LawAt (L : am_L) (l : Int) (la : Lam) : Prop := kd L l = 15 ∧ ∃ (n : Int) (tl tt te : Int → Tau) (al at_ ae : Int),
  fF L l 0 = al ∧ fF L l 1 = at_ ∧ fF L l 2 = ae ∧ fF L l 3 = n ∧ (0 ≤ n ∧ n ≤ 4) ∧ kd L al = 115 ∧ ln L al = 4 ∧ kd L at_ = 115 ∧ ln L at_ = 4 ∧ kd L ae = 115 ∧ ln L ae = 5 ∧
  (∀ k, 0 ≤ k → k < n → SumN 420 L (fF L al k) (tl k) ∧ SumN 420 L (fF L at_ k) (tt k)) ∧ (∀ k, 0 ≤ k → k ≤ n → SumN 420 L (fF L ae k) (te k)) ∧ la = lamOf n tl tt te
section LAWOF
variable {G : am_G} {M : am_M} {d pc : Nat} {ls st rest : List AV} {L : am_L} {h : am_H} {Q : am_O → am_L → am_H → Prop}
theorem ngt_at (h : am_H) (q b : Int) (hb : b = 0 ∨ b = 1) : ngt (am_st h q 1 0) q b = am_st h q 1 b := by
  unfold ngt
  rcases hb with rfl | rfl
  · rfl
  · rw [if_pos rfl]
    funext x j
    simp only [am_st_at]
    split <;> rfl
theorem o01 (z : Prop) [Decidable z] : (if z then (1 : Int) else 0) = 0 ∨ (if z then (1 : Int) else 0) = 1 := by split <;> simp
set_option maxHeartbeats 4000000 in
theorem C_X15_of {l q A : Int} {la : Lam} (hl : LawAt L l la) (k6 : kd L q = 6) (f6 : fF L q 0 = A) (kA : kd L A = 100) (lA : ln L A = 6) (hne : A ≠ q) (k : ∀ b : Int, Q (.inl [aI (la (h A))]) L (am_st h q 1 b)) : am_C G mX15_of (d + 421) [aR l, aR q] L h Q := by
  obtain ⟨kl, n, tl, tt, te, al, at_, ae, f0, f1, f2, f3, hn, kal, lal, kat, lat, kae, lae, hs, he, rfl⟩ := hl
  refine am_C_wf fun wf => x_start okX15_of rfl rfl rfl rfl ?_
  have hE : v6 (h A) := fun i => am_rgI wf kA i
  have hbb : (0 : Int) = 0 ∨ (0 : Int) = 1 := Or.inl rfl
  refine x_aload_1 dX15_of_0 ?_
  refine x_iconst dX15_of_1 ?_
  refine x_putZ_ dX15_of_2 fl424_6 (by first | assumption | omega) (by omega) ?_
  refine x_iconst dX15_of_5 ?_
  refine x_istore_2 dX15_of_6 rfl ?_
  rw [show am_st h q 1 0 = ngt (am_st h q 1 0) q 0 from rfl]
  have hA : ∀ b, ngt (am_st h q 1 0) q b A = h A := fun b => by rw [ngt_ne _ hne]; funext j; rw [am_st_at, if_neg (fun z => hne z.1)]
  refine x_up2 n (fun i b w => 0 ≤ i → i ≤ n → (b = 0 ∨ b = 1) → lawGo tl tt te (h A) (n - i).toNat i b = lawGo tl tt te (h A) n.toNat 0 0 → am_X G mX15_of (d + 421) 7 [aR l, aR q, aI i, w] [] L (ngt (am_st h q 1 0) q b) Q) ?_ 0 0 aU (by omega) (by omega) (Or.inl rfl) (by rw [show n - 0 = n by omega])
  intro i b w ih h0 h1 hb hgo
  have hte := tau_rg wf 420 (he i h0 h1) (h A) hE
  have hend : ∀ c : Int, lawGo tl tt te (h A) n.toNat 0 0 = ((te i (h A)).1, if c = 1 ∨ (te i (h A)).2 = 1 then 1 else 0) → am_X G mX15_of (d + 421) 44 [aR l, aR q, aI i, w] [] L (ngt (am_st h q 1 0) q c) Q := fun c hc => by
    have hk : ∀ b : Int, Q (.inl [aI (lamOf n tl tt te (h A))]) L (am_st h q 1 b) := k
    unfold lamOf at hk
    rw [hc] at hk
    obtain ⟨fl, hfl, hfl2⟩ : ∃ fl : Int, (if c = 1 ∨ (te i (h A)).2 = 1 then (1 : Int) else 0) = fl ∧ (fl = 0 ∨ fl = 1) := ⟨_, rfl, o01 _⟩
    rw [hfl] at hk
    refine x_aload_0 dX15_of_44 ?_
    refine x_getR dX15_of_45 fl1095_15 rfl (by first | assumption | omega) (by exact f2) ?_
    refine x_iload_2 dX15_of_48 ?_
    refine x_aald dX15_of_49 (by first | assumption | omega) (by decide) (by decide) (by omega) (by rfl) ?_
    refine x_aload_1 dX15_of_50 ?_
    refine x_sumof dX15_of_51 rfl q552 (he i h0 h1) (C_of 420 (he i h0 h1)) k6 f6 kA lA hne rfl ?_
    rw [hA, ngt_ngt, hfl, ngt_at _ _ _ hfl2]
    refine x_istore_3 dX15_of_54 rfl ?_
    refine x_aload_1 dX15_of_55 ?_
    refine x_getZ_ dX15_of_56 fl424_6 (by first | assumption | omega) (fun r56 => ?_)
    rw [am_st_at, if_pos ⟨rfl, rfl⟩]
    refine x_if_eq (tgt := 66) dX15_of_59 rfl (by rcases hfl2 with e | e <;> rw [e] <;> exact ⟨by decide, by decide⟩) (fun c59 => ?_) (fun c59 => ?_)
    · refine x_iconst dX15_of_66 ?_
      refine x_iload_3 dX15_of_67 ?_
      refine x_mmax dX15_of_68 q565 q566 q135 q567 rfl (by first | exact hte.1 | exact ⟨by decide, by decide⟩) (by first | exact hte.1 | exact ⟨by decide, by decide⟩) ?_
      refine x_iret dX15_of_71 rfl ?_
      refine x_q1 ?_ (hk fl)
      dsimp only
      (repeat' split) <;> omega
    · refine x_iconst dX15_of_62 ?_
      refine x_goto (tgt := 71) dX15_of_63 rfl ?_
      refine x_iret dX15_of_71 rfl ?_
      refine x_q1 ?_ (hk fl)
      dsimp only
      (repeat' split) <;> omega
  refine x_iload_2 dX15_of_7 ?_
  refine x_aload_0 dX15_of_8 ?_
  refine x_getKI dX15_of_9 fl1097_15 (by first | assumption | omega) (by exact f3) (fun r9 => ?_)
  refine x_icmp_ge (tgt := 44) dX15_of_12 rfl (by omega) (by omega) (fun c12 => ?_) (fun c12 => ?_)
  · first
    | (refine hend b ?_
       rw [← hgo, show n - i = 0 by omega]
       rfl)
    | (refine hend _ ?_
       rw [← hgo, show (n - i).toNat = (n - (i + 1)).toNat + 1 by omega]
       rw [lawGo, if_neg (show ¬ (tt i (h A)).1 ≤ (tl i (h A)).1 by omega)])
  · have hs1 := hs i h0 (by omega)
    have ht1 := tau_rg wf 420 hs1.1 (h A) hE
    have ht2 := tau_rg wf 420 hs1.2 (h A) hE
    refine x_aload_0 dX15_of_15 ?_
    refine x_getR dX15_of_16 fl1091_15 rfl (by first | assumption | omega) (by exact f0) ?_
    refine x_iload_2 dX15_of_19 ?_
    refine x_aald dX15_of_20 (by first | assumption | omega) (by decide) (by decide) (by omega) (by rfl) ?_
    refine x_aload_1 dX15_of_21 ?_
    refine x_sumof dX15_of_22 rfl q552 hs1.1 (C_of 420 hs1.1) k6 f6 kA lA hne rfl ?_
    rw [hA, ngt_ngt]
    refine x_aload_0 dX15_of_25 ?_
    refine x_getR dX15_of_26 fl1093_15 rfl (by first | assumption | omega) (by exact f1) ?_
    refine x_iload_2 dX15_of_29 ?_
    refine x_aald dX15_of_30 (by first | assumption | omega) (by decide) (by decide) (by omega) (by rfl) ?_
    refine x_aload_1 dX15_of_31 ?_
    refine x_sumof dX15_of_32 rfl q552 hs1.2 (C_of 420 hs1.2) k6 f6 kA lA hne rfl ?_
    rw [hA, ngt_ngt]
    refine x_icmp_lt (tgt := 44) dX15_of_35 rfl (by first | exact ht1.1 | exact ht2.1) (by first | exact ht1.1 | exact ht2.1) (fun c35 => ?_) (fun c35 => ?_)
    · first
      | (refine hend b ?_
         rw [← hgo, show n - i = 0 by omega]
         rfl)
      | (refine hend _ ?_
         rw [← hgo, show (n - i).toNat = (n - (i + 1)).toNat + 1 by omega]
         rw [lawGo, if_neg (show ¬ (tt i (h A)).1 ≤ (tl i (h A)).1 by omega)])
    · refine x_iinc2 dX15_of_38 rfl ?_
      refine x_goto (tgt := 7) dX15_of_41 rfl ?_
      refine ih (by omega) (if (if b = 1 ∨ (tl i (h A)).2 = 1 then (1 : Int) else 0) = 1 ∨ (tt i (h A)).2 = 1 then 1 else 0) _ (by omega) (by omega) (o01 _) ?_
      rw [← hgo, show (n - i).toNat = (n - (i + 1)).toNat + 1 by omega]
      rw [lawGo, if_pos (show (tt i (h A)).1 ≤ (tl i (h A)).1 by omega)]
end LAWOF
