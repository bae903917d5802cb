/-! CLOTH: top, takes, asks, does -/
set_option maxRecDepth 100000
/-- a law asks for six numbers, no more -/
theorem tau_ext {L : am_L} {v v' : Int → Int} (hv : ∀ i, 0 ≤ i → i < 6 → v i = v' i) : ∀ (n : Nat) {a : Int} {ta : Tau}, SumN n L a ta → ta v = ta v'
  | 0, _, _, h => h.elim
  | n + 1, a, ta, hs => by
    rcases hs with ⟨h1, rfl⟩ | ⟨h1, h2, rfl⟩ | ⟨h1, t1, t2, h2, h3, rfl⟩
    · rfl
    · show (v _, (0 : Int)) = (v' _, 0)
      rw [hv _ h2.1 h2.2]
    · unfold jnT
      rw [tau_ext hv n h2, tau_ext hv n h3]
theorem lawGo_ext {tl tt te : Int → Tau} {v v' : Int → Int} {N : Int} (h1 : ∀ k, 0 ≤ k → k < N → tl k v = tl k v' ∧ tt k v = tt k v') (h2 : ∀ k, 0 ≤ k → k ≤ N → te k v = te k v') : ∀ (r : Nat) (k b : Int), 0 ≤ k → k + r = N → lawGo tl tt te v r k b = lawGo tl tt te v' r k b
  | 0, k, b, h0, he => by
    unfold lawGo
    rw [h2 k h0 (by omega)]
  | r + 1, k, b, h0, he => by
    obtain ⟨e1, e2⟩ := h1 k h0 (by omega)
    unfold lawGo
    rw [e1, e2, h2 k h0 (by omega), lawGo_ext h1 h2 r (k + 1) _ (by omega) (by omega)]
theorem law_ext {L : am_L} {l : Int} {la : Lam} (hl : LawAt L l la) {v v' : Int → Int} (hv : ∀ i, 0 ≤ i → i < 6 → v i = v' i) : la v = la v' := by
  obtain ⟨-, n, tl, tt, te, al, at_, ae, -, -, -, -, hn, -, -, -, -, -, -, hs, he, rfl⟩ := hl
  unfold lamOf
  rw [lawGo_ext (N := n) (v' := v') (fun k h0 h1 => ⟨tau_ext hv 420 (hs k h0 h1).1, tau_ext hv 420 (hs k h0 h1).2⟩) (fun k h0 h1 => tau_ext hv 420 (he k h0 h1)) n.toNat 0 0 (by omega) (by omega)]
section CLOTH3
variable {G : am_G} {d : Nat} {L : am_L} {h : am_H} {Q : am_O → am_L → am_H → Prop} {c c2 t b q : Int} {T : Txt} {S : Row}
/-- what top holds behind some pieces -/
def topI (S : Row) (sv M : Int) (P : Int → Int → Prop) (who last : Int) : Prop :=
  (who = -2 ∧ last = -1 ∧ ∀ m k, P m k → rS S m k ≠ sv) ∨
  (0 ≤ who ∧ who < M ∧ ∃ i, P who i ∧ 0 ≤ i ∧ i < rN S who ∧ rS S who i = sv ∧ last = rT S who i ∧ ∀ m k, P m k → rS S m k = sv → rT S m k ≤ last)
set_option maxHeartbeats 4000000 in
theorem C_X5_top {sv : Int} (hr : RC L h c T S) (hI : RowI T S b q) (hq : q ≤ 1000000) (hT : TxtI T) (hsv : rg32 sv)
    (k : ∀ r, topP T S sv r → Q (.inl [aI r]) L h) : am_C G mX5_top (d + 1) [aR c, aI sv] L h Q := by
  have hnb := hr.nb hI hT
  obtain ⟨⟨k0, f0, f1, f2, f3, f4, f5, f6, f10, k1, l1, k2, l2, k3, l3, k4, l4, k5, l5, k13, l13, k21, l21, fw, fs, ft, k29, f29, k30, l30⟩, rn, rx, rk, r7, r8, r9⟩ := hr
  have hM := hT.1
  refine x_start okX5_top rfl rfl rfl rfl ?_
  refine x_bipush dX5_top_0 rfl ?_
  refine x_istore_2 dX5_top_2 rfl ?_
  refine x_iconst dX5_top_3 ?_
  refine x_istore_3 dX5_top_4 rfl ?_
  refine x_iconst dX5_top_5 ?_
  refine x_istore4 dX5_top_6 rfl ?_
  refine x_up3 7 (fun o who last w => 0 ≤ o → o ≤ 7 → (-1 ≤ last ∧ last ≤ 1000000) → topI S sv (tM T) (fun m k => 0 ≤ m ∧ m < o ∧ 0 ≤ k ∧ k < rN S m) who last → am_X G mX5_top (d + 1) 8 [aR c, aI sv, aI who, aI last, aI o, w] [] L h Q) ?_ 0 (-2) (-1) aU (by omega) (by omega) (by omega) (Or.inl ⟨rfl, rfl, fun m k hp => by omega⟩)
  intro o who last w ih h0 h1 hlr hti
  refine x_iload4 dX5_top_8 ?_
  refine x_bipush dX5_top_10 rfl ?_
  refine x_icmp_ge (tgt := 87) dX5_top_12 rfl (by omega) (by omega) (fun c12 => ?_) (fun c12 => ?_)
  · refine x_iload_2 dX5_top_87 ?_
    refine x_iret dX5_top_88 rfl ?_
    refine k who ?_
    rcases hti with ⟨e1, -, e3⟩ | ⟨e1, e2, i, e3, e4, e5, e6, e7, e8⟩
    · exact Or.inl ⟨e1, fun m k g0 g1 g2 g3 => e3 m k ⟨g0, by omega, g2, g3⟩⟩
    · exact Or.inr ⟨e1, e2, i, e4, e5, e6, fun m k g0 g1 g2 g3 g4 => by
        rw [← e7]
        exact e8 m k ⟨g0, by omega, g2, g3⟩ g4⟩
  · refine x_iconst dX5_top_15 ?_
    refine x_istore5 dX5_top_16 rfl ?_
    have lso := (fs o h0 (by omega)).2.2
    have lto := (ft o h0 (by omega)).2.2
    have nbo := hnb o h0 (by omega)
    have eno := rn o h0 (by omega)
    refine x_up2 (rN S o) (fun j who last => 0 ≤ j → j ≤ rN S o → (-1 ≤ last ∧ last ≤ 1000000) → topI S sv (tM T) (fun m k => (0 ≤ m ∧ m < o ∧ 0 ≤ k ∧ k < rN S m) ∨ (m = o ∧ 0 ≤ k ∧ k < j)) who last → am_X G mX5_top (d + 1) 18 [aR c, aI sv, aI who, aI last, aI o, aI j] [] L h Q) ?_ 0 who last (by omega) (by omega) hlr ?_
    · intro j who last ih2 g0 g1 hlr2 hti2
      refine x_iload5 dX5_top_18 ?_
      refine x_aload_0 dX5_top_20 ?_
      refine x_getR dX5_top_21 fl435_5 rfl (by first | (exact ClL.k0 (by assumption)) | (first | assumption | exact (fw _ (by omega) (by omega)).2.1 | exact (fs _ (by omega) (by omega)).2.1 | exact (ft _ (by omega) (by omega)).2.1)) (by first | (exact ClL.f2 (by assumption)) | (first | assumption | exact (fw _ (by omega) (by omega)).1 | exact (fs _ (by omega) (by omega)).1 | exact (ft _ (by omega) (by omega)).1)) ?_
      refine x_iload4 dX5_top_24 ?_
      refine x_iald_ dX5_top_26 (by first | (exact ClL.k3 (by assumption)) | (first | assumption | exact (fw _ (by omega) (by omega)).2.1 | exact (fs _ (by omega) (by omega)).2.1 | exact (ft _ (by omega) (by omega)).2.1)) (by first | (exact ClL.r3 (by assumption) (by omega) (by omega)) | (omega)) (fun r26 => ?_)
      refine x_icmp_ge (tgt := 81) dX5_top_27 rfl (by omega) (by omega) (fun c27 => ?_) (fun c27 => ?_)
      · refine x_iinc4 dX5_top_81 rfl ?_
        refine x_goto (tgt := 8) dX5_top_84 rfl ?_
        refine ih (by omega) _ _ _ (by omega) (by omega) hlr2 ?_
        have hp : ∀ m k, (0 ≤ m ∧ m < o + 1 ∧ 0 ≤ k ∧ k < rN S m) → (0 ≤ m ∧ m < o ∧ 0 ≤ k ∧ k < rN S m) ∨ (m = o ∧ 0 ≤ k ∧ k < j) := fun m k hp => by
          by_cases e : m = o
          · subst e
            exact Or.inr ⟨rfl, by omega, by omega⟩
          · exact Or.inl ⟨hp.1, by omega, hp.2.2⟩
        rcases hti2 with ⟨e1, e2, e3⟩ | ⟨e1, e2, i, e3, e4, e5, e6, e7, e8⟩
        · exact Or.inl ⟨e1, e2, fun m k hp1 => e3 m k (hp m k hp1)⟩
        · refine Or.inr ⟨e1, e2, i, ?_, e4, e5, e6, e7, fun m k hp1 => e8 m k (hp m k hp1)⟩
          rcases e3 with e3 | e3
          · exact ⟨e3.1, by omega, e3.2.2⟩
          · exact ⟨e1, by omega, e4, e5⟩
      · obtain ⟨-, es, et⟩ := rk o j h0 (by omega) g0 (by omega)
        have hoM : o < tM T := by
          rcases Int.lt_or_le o (tM T) with z | z
          · exact z
          · have := (hI.1 o h0 (by omega)).2.1 z
            omega
        have htj := (hI.2.2.1 o j h0 hoM g0 (by omega)).2.1
        have hqq := hI.2.2.2.2.2.2.2
        refine x_aload_0 dX5_top_30 ?_
        refine x_getR dX5_top_31 fl444_5 rfl (by first | (exact ClL.k0 (by assumption)) | (first | assumption | exact (fw _ (by omega) (by omega)).2.1 | exact (fs _ (by omega) (by omega)).2.1 | exact (ft _ (by omega) (by omega)).2.1)) (by first | (exact ClL.f5 (by assumption)) | (first | assumption | exact (fw _ (by omega) (by omega)).1 | exact (fs _ (by omega) (by omega)).1 | exact (ft _ (by omega) (by omega)).1)) ?_
        refine x_iload4 dX5_top_34 ?_
        refine x_aald dX5_top_36 (by first | (exact ClL.k13 (by assumption)) | (first | assumption | exact (fw _ (by omega) (by omega)).2.1 | exact (fs _ (by omega) (by omega)).2.1 | exact (ft _ (by omega) (by omega)).2.1)) (by decide) (by decide) (by first | (exact ClL.r13 (by assumption) (by omega) (by omega)) | (omega)) (by first | (exact ClL.fs (by assumption) (by omega) (by omega)) | (first | assumption | exact (fw _ (by omega) (by omega)).1 | exact (fs _ (by omega) (by omega)).1 | exact (ft _ (by omega) (by omega)).1)) ?_
        refine x_iload5 dX5_top_37 ?_
        refine x_iald_ dX5_top_39 (by first | (exact ClL.ks (by assumption) (by omega) (by omega)) | (first | assumption | exact (fw _ (by omega) (by omega)).2.1 | exact (fs _ (by omega) (by omega)).2.1 | exact (ft _ (by omega) (by omega)).2.1)) (by first | (exact ClL.rs (by assumption) (by omega) (by omega) (by omega) (by omega)) | (omega)) (fun r39 => ?_)
        refine x_iload_1 dX5_top_40 ?_
        refine x_icmp_ne (tgt := 75) dX5_top_41 rfl (by omega) (by omega) (fun c41 => ?_) (fun c41 => ?_)
        · refine x_iinc5 dX5_top_75 rfl ?_
          refine x_goto (tgt := 18) dX5_top_78 rfl ?_
          first
          | (refine ih2 (by omega) _ _ (by omega) (by omega) (by omega) ?_
             rw [et]
             refine Or.inr ⟨h0, hoM, j, Or.inr ⟨rfl, g0, by omega⟩, g0, by omega, by rw [← es]; assumption, rfl, fun m k hp hs => ?_⟩
             rcases hti2 with ⟨e1, e2, e3⟩ | ⟨e1, e2, i, e3, e4, e5, e6, e7, e8⟩
             · rcases hp with hp | ⟨rfl, hp⟩
               · exact absurd hs (e3 m k (Or.inl hp))
               · by_cases ek : k = j
                 · rw [ek]; exact Int.le_refl _
                 · exact absurd hs (e3 m k (Or.inr ⟨rfl, hp.1, by omega⟩))
             · have hle : ∀ z, z ≤ last → z ≤ rT S o j := fun z hz => by omega
               rcases hp with hp | ⟨rfl, hp⟩
               · exact hle _ (e8 m k (Or.inl hp) hs)
               · by_cases ek : k = j
                 · rw [ek]; exact Int.le_refl _
                 · exact hle _ (e8 m k (Or.inr ⟨rfl, hp.1, by omega⟩) hs))
          | (refine ih2 (by omega) _ _ (by omega) (by omega) hlr2 ?_
             have hnew : rS S o j = sv → rT S o j ≤ last := fun hz => by omega
             rcases hti2 with ⟨e1, e2, e3⟩ | ⟨e1, e2, i, e3, e4, e5, e6, e7, e8⟩
             · refine Or.inl ⟨e1, e2, fun m k hp hs => ?_⟩
               rcases hp with hp | ⟨rfl, hp⟩
               · exact e3 m k (Or.inl hp) hs
               · by_cases ek : k = j
                 · subst ek
                   have := hnew hs
                   omega
                 · exact e3 m k (Or.inr ⟨rfl, hp.1, by omega⟩) hs
             · refine Or.inr ⟨e1, e2, i, ?_, e4, e5, e6, e7, fun m k hp hs => ?_⟩
               · rcases e3 with e3 | e3
                 · exact Or.inl e3
                 · exact Or.inr ⟨e3.1, e3.2.1, by omega⟩
               · rcases hp with hp | ⟨rfl, hp⟩
                 · exact e8 m k (Or.inl hp) hs
                 · by_cases ek : k = j
                   · subst ek
                     exact hnew hs
                   · exact e8 m k (Or.inr ⟨rfl, hp.1, by omega⟩) hs)
        · refine x_aload_0 dX5_top_44 ?_
          refine x_getR dX5_top_45 fl446_5 rfl (by first | (exact ClL.k0 (by assumption)) | (first | assumption | exact (fw _ (by omega) (by omega)).2.1 | exact (fs _ (by omega) (by omega)).2.1 | exact (ft _ (by omega) (by omega)).2.1)) (by first | (exact ClL.f6 (by assumption)) | (first | assumption | exact (fw _ (by omega) (by omega)).1 | exact (fs _ (by omega) (by omega)).1 | exact (ft _ (by omega) (by omega)).1)) ?_
          refine x_iload4 dX5_top_48 ?_
          refine x_aald dX5_top_50 (by first | (exact ClL.k21 (by assumption)) | (first | assumption | exact (fw _ (by omega) (by omega)).2.1 | exact (fs _ (by omega) (by omega)).2.1 | exact (ft _ (by omega) (by omega)).2.1)) (by decide) (by decide) (by first | (exact ClL.r21 (by assumption) (by omega) (by omega)) | (omega)) (by first | (exact ClL.ft (by assumption) (by omega) (by omega)) | (first | assumption | exact (fw _ (by omega) (by omega)).1 | exact (fs _ (by omega) (by omega)).1 | exact (ft _ (by omega) (by omega)).1)) ?_
          refine x_iload5 dX5_top_51 ?_
          refine x_iald_ dX5_top_53 (by first | (exact ClL.kt (by assumption) (by omega) (by omega)) | (first | assumption | exact (fw _ (by omega) (by omega)).2.1 | exact (fs _ (by omega) (by omega)).2.1 | exact (ft _ (by omega) (by omega)).2.1)) (by first | (exact ClL.rt (by assumption) (by omega) (by omega) (by omega) (by omega)) | (omega)) (fun r53 => ?_)
          refine x_iload_3 dX5_top_54 ?_
          refine x_icmp_ge (tgt := 61) dX5_top_55 rfl (by omega) (by omega) (fun c55 => ?_) (fun c55 => ?_)
          · refine x_iload4 dX5_top_61 ?_
            refine x_istore_2 dX5_top_63 rfl ?_
            refine x_aload_0 dX5_top_64 ?_
            refine x_getR dX5_top_65 fl446_5 rfl (by first | (exact ClL.k0 (by assumption)) | (first | assumption | exact (fw _ (by omega) (by omega)).2.1 | exact (fs _ (by omega) (by omega)).2.1 | exact (ft _ (by omega) (by omega)).2.1)) (by first | (exact ClL.f6 (by assumption)) | (first | assumption | exact (fw _ (by omega) (by omega)).1 | exact (fs _ (by omega) (by omega)).1 | exact (ft _ (by omega) (by omega)).1)) ?_
            refine x_iload4 dX5_top_68 ?_
            refine x_aald dX5_top_70 (by first | (exact ClL.k21 (by assumption)) | (first | assumption | exact (fw _ (by omega) (by omega)).2.1 | exact (fs _ (by omega) (by omega)).2.1 | exact (ft _ (by omega) (by omega)).2.1)) (by decide) (by decide) (by first | (exact ClL.r21 (by assumption) (by omega) (by omega)) | (omega)) (by first | (exact ClL.ft (by assumption) (by omega) (by omega)) | (first | assumption | exact (fw _ (by omega) (by omega)).1 | exact (fs _ (by omega) (by omega)).1 | exact (ft _ (by omega) (by omega)).1)) ?_
            refine x_iload5 dX5_top_71 ?_
            refine x_iald_ dX5_top_73 (by first | (exact ClL.kt (by assumption) (by omega) (by omega)) | (first | assumption | exact (fw _ (by omega) (by omega)).2.1 | exact (fs _ (by omega) (by omega)).2.1 | exact (ft _ (by omega) (by omega)).2.1)) (by first | (exact ClL.rt (by assumption) (by omega) (by omega) (by omega) (by omega)) | (omega)) (fun r73 => ?_)
            refine x_istore_3 dX5_top_74 rfl ?_
            refine x_iinc5 dX5_top_75 rfl ?_
            refine x_goto (tgt := 18) dX5_top_78 rfl ?_
            first
            | (refine ih2 (by omega) _ _ (by omega) (by omega) (by omega) ?_
               rw [et]
               refine Or.inr ⟨h0, hoM, j, Or.inr ⟨rfl, g0, by omega⟩, g0, by omega, by rw [← es]; assumption, rfl, fun m k hp hs => ?_⟩
               rcases hti2 with ⟨e1, e2, e3⟩ | ⟨e1, e2, i, e3, e4, e5, e6, e7, e8⟩
               · rcases hp with hp | ⟨rfl, hp⟩
                 · exact absurd hs (e3 m k (Or.inl hp))
                 · by_cases ek : k = j
                   · rw [ek]; exact Int.le_refl _
                   · exact absurd hs (e3 m k (Or.inr ⟨rfl, hp.1, by omega⟩))
               · have hle : ∀ z, z ≤ last → z ≤ rT S o j := fun z hz => by omega
                 rcases hp with hp | ⟨rfl, hp⟩
                 · exact hle _ (e8 m k (Or.inl hp) hs)
                 · by_cases ek : k = j
                   · rw [ek]; exact Int.le_refl _
                   · exact hle _ (e8 m k (Or.inr ⟨rfl, hp.1, by omega⟩) hs))
            | (refine ih2 (by omega) _ _ (by omega) (by omega) hlr2 ?_
               have hnew : rS S o j = sv → rT S o j ≤ last := fun hz => by omega
               rcases hti2 with ⟨e1, e2, e3⟩ | ⟨e1, e2, i, e3, e4, e5, e6, e7, e8⟩
               · refine Or.inl ⟨e1, e2, fun m k hp hs => ?_⟩
                 rcases hp with hp | ⟨rfl, hp⟩
                 · exact e3 m k (Or.inl hp) hs
                 · by_cases ek : k = j
                   · subst ek
                     have := hnew hs
                     omega
                   · exact e3 m k (Or.inr ⟨rfl, hp.1, by omega⟩) hs
               · refine Or.inr ⟨e1, e2, i, ?_, e4, e5, e6, e7, fun m k hp hs => ?_⟩
                 · rcases e3 with e3 | e3
                   · exact Or.inl e3
                   · exact Or.inr ⟨e3.1, e3.2.1, by omega⟩
                 · rcases hp with hp | ⟨rfl, hp⟩
                   · exact e8 m k (Or.inl hp) hs
                   · by_cases ek : k = j
                     · subst ek
                       exact hnew hs
                     · exact e8 m k (Or.inr ⟨rfl, hp.1, by omega⟩) hs)
          · refine x_goto (tgt := 75) dX5_top_58 rfl ?_
            refine x_iinc5 dX5_top_75 rfl ?_
            refine x_goto (tgt := 18) dX5_top_78 rfl ?_
            first
            | (refine ih2 (by omega) _ _ (by omega) (by omega) (by omega) ?_
               rw [et]
               refine Or.inr ⟨h0, hoM, j, Or.inr ⟨rfl, g0, by omega⟩, g0, by omega, by rw [← es]; assumption, rfl, fun m k hp hs => ?_⟩
               rcases hti2 with ⟨e1, e2, e3⟩ | ⟨e1, e2, i, e3, e4, e5, e6, e7, e8⟩
               · rcases hp with hp | ⟨rfl, hp⟩
                 · exact absurd hs (e3 m k (Or.inl hp))
                 · by_cases ek : k = j
                   · rw [ek]; exact Int.le_refl _
                   · exact absurd hs (e3 m k (Or.inr ⟨rfl, hp.1, by omega⟩))
               · have hle : ∀ z, z ≤ last → z ≤ rT S o j := fun z hz => by omega
                 rcases hp with hp | ⟨rfl, hp⟩
                 · exact hle _ (e8 m k (Or.inl hp) hs)
                 · by_cases ek : k = j
                   · rw [ek]; exact Int.le_refl _
                   · exact hle _ (e8 m k (Or.inr ⟨rfl, hp.1, by omega⟩) hs))
            | (refine ih2 (by omega) _ _ (by omega) (by omega) hlr2 ?_
               have hnew : rS S o j = sv → rT S o j ≤ last := fun hz => by omega
               rcases hti2 with ⟨e1, e2, e3⟩ | ⟨e1, e2, i, e3, e4, e5, e6, e7, e8⟩
               · refine Or.inl ⟨e1, e2, fun m k hp hs => ?_⟩
                 rcases hp with hp | ⟨rfl, hp⟩
                 · exact e3 m k (Or.inl hp) hs
                 · by_cases ek : k = j
                   · subst ek
                     have := hnew hs
                     omega
                   · exact e3 m k (Or.inr ⟨rfl, hp.1, by omega⟩) hs
               · refine Or.inr ⟨e1, e2, i, ?_, e4, e5, e6, e7, fun m k hp hs => ?_⟩
                 · rcases e3 with e3 | e3
                   · exact Or.inl e3
                   · exact Or.inr ⟨e3.1, e3.2.1, by omega⟩
                 · rcases hp with hp | ⟨rfl, hp⟩
                   · exact e8 m k (Or.inl hp) hs
                   · by_cases ek : k = j
                     · subst ek
                       exact hnew hs
                     · exact e8 m k (Or.inr ⟨rfl, hp.1, by omega⟩) hs)
    · rcases hti with ⟨e1, e2, e3⟩ | ⟨e1, e2, i, e3, e4, e5, e6, e7, e8⟩
      · exact Or.inl ⟨e1, e2, fun m k hp => e3 m k (by omega)⟩
      · exact Or.inr ⟨e1, e2, i, Or.inl e3, e4, e5, e6, e7, fun m k hp => e8 m k (by omega)⟩
end CLOTH3
