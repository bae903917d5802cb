/-! THE TWO, as they stand: text and row; what work leaves alone -/
set_option maxRecDepth 100000
section STD
variable {G : am_G} {d : Nat} {L : am_L} {h h' : am_H} {Q : am_O → am_L → am_H → Prop} {x o s t : Int} {T : Txt} {S : Row} {b q : Int}
/-- ThreadTown at x: its text is T, its cloth holds S -/
def CoT (L : am_L) (h : am_H) (x t : Int) (T : Txt) (S : Row) : Prop := MkL L x ∧ h x 3 = t ∧ TxL L t T ∧ RC L h (x + 17) T S
/-- the twin at o: its text is T, its row holds S -/
def TwT (L : am_L) (h : am_H) (o s : Int) (T : Txt) (S : Row) : Prop := MdT L h o s T ∧ RwF (h (o + 37)) (tM T) S
/-- nothing but what ThreadTown works with was written -/
def FrS (h h' : am_H) (x : Int) : Prop := ∀ a i, ((a < x + 46 ∨ (x + 79 ≤ a ∧ a < x + 181) ∨ (x + 271 ≤ a ∧ a ≠ x + 273)) ∧ (a = x → i ≠ 17 ∧ i ≠ 18)) → h' a i = h a i
theorem FrS.rf (h : am_H) (x : Int) : FrS h h x := fun _ _ _ => rfl
theorem FrS.tr {h1 h2 : am_H} (a : FrS h h1 x) (b : FrS h1 h2 x) : FrS h h2 x := fun y i hy => (b y i hy).trans (a y i hy)
theorem FrC.trial (a : FrC h h' (x + 48)) : FrS h h' x := fun y i hy => by rw [a y (by omega)]
theorem RC.frS {c : Int} (r : RC L h c T S) (hf : FrS h h' x) (hc : c = x + 17 ∨ (x + 81 ≤ c ∧ c ≤ x + 143) ∨ x + 275 ≤ c) : RC L h' c T S :=
  r.fr fun a h0 h1 => by funext i; exact hf a i ⟨by omega, by omega⟩
theorem CoT.fr (r : CoT L h x t T S) (hf : FrS h h' x) : CoT L h' x t T S := by
  obtain ⟨r1, r2, r3, r4⟩ := r
  exact ⟨r1, by rw [hf x 3 ⟨by omega, by omega⟩]; exact r2, r3, r4.frS hf (Or.inl rfl)⟩
theorem CoT.cl (r : CoT L h x t T S) : ClL L (x + 17) := r.2.2.2.1
theorem CoT.rc (r : CoT L h x t T S) : RC L h (x + 17) T S := r.2.2.2
theorem CoT.mk (r : CoT L h x t T S) : MkL L x := r.1
theorem CoT.tx (r : CoT L h x t T S) : TxL L t T := r.2.2.1
theorem CoT.ht (r : CoT L h x t T S) : h x 3 = t := r.2.1
theorem RowI.n60 (hI : RowI T S b q) (hT : TxtI T) : ∀ m, 0 ≤ m → m < 7 → 0 ≤ rN S m ∧ rN S m ≤ 60 := fun m z0 z1 => by
  have := (hI.1 m z0 z1).1
  have := lng_bd hT m
  omega
theorem RwF.fr {f : Int → Int} (hI : RowI T S b q) (hT : TxtI T) (r : RwF f (tM T) S) {g : Int → Int} (h : ∀ i, 0 ≤ i → i < 1290 → g i = f i) : RwF g (tM T) S :=
  r.cg (fun m z0 z1 => (hI.n60 hT m z0 z1).2) hT.1.2 h
theorem TwT.fr (r : TwT L h o s T S) (hf : FrW h h' o) : TwT L h' o s T S := by
  refine ⟨r.1.fr hf, ?_⟩
  have e : h' (o + 37) = h (o + 37) := by funext i; exact hf _ i ⟨by omega, by omega⟩
  rw [e]
  exact r.2
theorem TwT.ml (r : TwT L h o s T S) : MdL L o := r.1.1
theorem x_neg1 {M : am_M} {pc : Nat} {ls st : List AV} (k : am_X G M d pc ls (aI (-1) :: st) L h Q) : am_X G M d pc ls (aI (-1) :: st) L h Q := k
theorem C_X0_men (hC : CoT L h x t T S) (k : Q (.inl [aI (tM T)]) L h) : am_C G mX0_men (d + 2) [aR x] L h Q := by
  have hK := hC.mk
  have htx := hC.tx
  have hht := hC.ht
  refine x_start okX0_men rfl rfl rfl rfl ?_
  refine x_aload_0 dX0_men_0 ?_
  refine x_getW dX0_men_1 fl574_0 rfl (by first | (exact MkL.k0 (by assumption)) | (assumption)) (by assumption) ?_
  refine x_getR dX0_men_4 fl352_4 rfl (by first | (exact TxL.k0 (by assumption)) | (assumption)) (by first | (rfl) | (assumption)) ?_
  refine x_callV0 dX0_men_7 rfl okJ5_size q1200 q526 q527 (by first | assumption | (exact TxL.kl (by assumption))) am_k20 rfl (C_J5_size htx.ls (x_k1 ?_))
  refine x_iret dX0_men_10 rfl ?_
  exact k
theorem C_X0_isMan {m : Int} (hC : CoT L h x t T S) (hT : TxtI T) (hm : rg32 m) (k : Q (.inl [aI (if 0 ≤ m ∧ m < tM T then 1 else 0)]) L h) : am_C G mX0_isMan (d + 3) [aR x, aI m] L h Q := by
  have hK := hC.mk
  have hM := hT.1
  refine x_start okX0_isMan rfl rfl rfl rfl ?_
  refine x_iload_1 dX0_isMan_0 ?_
  refine x_iconst dX0_isMan_1 ?_
  refine x_aload_0 dX0_isMan_2 ?_
  refine x_callV0 dX0_isMan_3 rfl okX0_men q1196 q1198 qs33 (by first | assumption | (exact MkL.k0 (by assumption))) am_k0 rfl (C_X0_men hC (x_k1 ?_))
  refine x_iconst dX0_isMan_6 ?_
  refine x_isub dX0_isMan_7 ?_
  refine x_callS3 dX0_isMan_8 rfl okX0_isIn q1201 q1202 rfl (C_X0_isIn hm ⟨by omega, by omega⟩ ⟨by omega, by omega⟩ (x_k1 ?_))
  refine x_zret dX0_isMan_11 rfl (by omega) ?_
  refine x_q1 ?_ k
  (repeat' split) <;> omega
theorem C_X0_areTwo {m n : Int} (hC : CoT L h x t T S) (hT : TxtI T) (hm : rg32 m) (hn : rg32 n) (k : Q (.inl [aI (if (0 ≤ m ∧ m < tM T) ∧ (0 ≤ n ∧ n < tM T) ∧ m ≠ n then 1 else 0)]) L h) : am_C G mX0_areTwo (d + 4) [aR x, aI m, aI n] L h Q := by
  have hK := hC.mk
  have hM := hT.1
  refine x_start okX0_areTwo rfl rfl rfl rfl ?_
  refine x_aload_0 dX0_areTwo_0 ?_
  refine x_iload_1 dX0_areTwo_1 ?_
  refine x_callV1 dX0_areTwo_2 rfl okX0_isMan q1192 q1194 qs32 (by first | assumption | (exact MkL.k0 (by assumption))) am_k0 rfl (C_X0_isMan hC hT hm (x_k1 ?_))
  refine x_if_eq (tgt := 25) dX0_areTwo_5 rfl (by split <;> omega) (fun c5 => ?_) (fun c5 => ?_)
  · refine x_iconst dX0_areTwo_25 ?_
    refine x_zret dX0_areTwo_26 rfl (by omega) ?_
    refine x_q1 ?_ k
    (repeat' split at c5) <;> (try split at c13) <;> (repeat' split) <;> omega
  · refine x_aload_0 dX0_areTwo_8 ?_
    refine x_iload_2 dX0_areTwo_9 ?_
    refine x_callV1 dX0_areTwo_10 rfl okX0_isMan q1192 q1194 qs32 (by first | assumption | (exact MkL.k0 (by assumption))) am_k0 rfl (C_X0_isMan hC hT hn (x_k1 ?_))
    refine x_if_eq (tgt := 25) dX0_areTwo_13 rfl (by split <;> omega) (fun c13 => ?_) (fun c13 => ?_)
    · refine x_iconst dX0_areTwo_25 ?_
      refine x_zret dX0_areTwo_26 rfl (by omega) ?_
      refine x_q1 ?_ k
      (repeat' split at c5) <;> (try split at c13) <;> (repeat' split) <;> omega
    · refine x_iload_1 dX0_areTwo_16 ?_
      refine x_iload_2 dX0_areTwo_17 ?_
      refine x_icmp_eq (tgt := 25) dX0_areTwo_18 rfl (by omega) (by omega) (fun c18 => ?_) (fun c18 => ?_)
      · refine x_iconst dX0_areTwo_25 ?_
        refine x_zret dX0_areTwo_26 rfl (by omega) ?_
        refine x_q1 ?_ k
        (repeat' split at c5) <;> (try split at c13) <;> (repeat' split) <;> omega
      · refine x_iconst dX0_areTwo_21 ?_
        refine x_goto (tgt := 26) dX0_areTwo_22 rfl ?_
        refine x_zret dX0_areTwo_26 rfl (by omega) ?_
        refine x_q1 ?_ k
        (repeat' split at c5) <;> (try split at c13) <;> (repeat' split) <;> omega
theorem C_X13_areTwo {m n : Int} (hM : MdT L h o s T) (hT : TxtI T) (hm : rg32 m) (hn : rg32 n) (k : Q (.inl [aI (if (0 ≤ m ∧ m < tM T) ∧ (0 ≤ n ∧ n < tM T) ∧ m ≠ n then 1 else 0)]) L h) : am_C G mX13_areTwo (d + 3) [aR o, aI m, aI n] L h Q := by
  have hL := hM.1
  have hM7 := hT.1
  refine x_start okX13_areTwo rfl rfl rfl rfl ?_
  refine x_aload_0 dX13_areTwo_0 ?_
  refine x_iload_1 dX13_areTwo_1 ?_
  refine x_callV1 dX13_areTwo_2 rfl okX13_isMan q1927 q1929 qs80 (by first | assumption | (exact MdL.k0 (by assumption))) am_k13 rfl (C_X13_isMan hM hT hm (x_k1 ?_))
  refine x_if_eq (tgt := 25) dX13_areTwo_5 rfl (by split <;> omega) (fun c5 => ?_) (fun c5 => ?_)
  · refine x_iconst dX13_areTwo_25 ?_
    refine x_zret dX13_areTwo_26 rfl (by omega) ?_
    refine x_q1 ?_ k
    (repeat' split at c5) <;> (try split at c13) <;> (repeat' split) <;> omega
  · refine x_aload_0 dX13_areTwo_8 ?_
    refine x_iload_2 dX13_areTwo_9 ?_
    refine x_callV1 dX13_areTwo_10 rfl okX13_isMan q1927 q1929 qs80 (by first | assumption | (exact MdL.k0 (by assumption))) am_k13 rfl (C_X13_isMan hM hT hn (x_k1 ?_))
    refine x_if_eq (tgt := 25) dX13_areTwo_13 rfl (by split <;> omega) (fun c13 => ?_) (fun c13 => ?_)
    · refine x_iconst dX13_areTwo_25 ?_
      refine x_zret dX13_areTwo_26 rfl (by omega) ?_
      refine x_q1 ?_ k
      (repeat' split at c5) <;> (try split at c13) <;> (repeat' split) <;> omega
    · refine x_iload_1 dX13_areTwo_16 ?_
      refine x_iload_2 dX13_areTwo_17 ?_
      refine x_icmp_eq (tgt := 25) dX13_areTwo_18 rfl (by omega) (by omega) (fun c18 => ?_) (fun c18 => ?_)
      · refine x_iconst dX13_areTwo_25 ?_
        refine x_zret dX13_areTwo_26 rfl (by omega) ?_
        refine x_q1 ?_ k
        (repeat' split at c5) <;> (try split at c13) <;> (repeat' split) <;> omega
      · refine x_iconst dX13_areTwo_21 ?_
        refine x_goto (tgt := 26) dX13_areTwo_22 rfl ?_
        refine x_zret dX13_areTwo_26 rfl (by omega) ?_
        refine x_q1 ?_ k
        (repeat' split at c5) <;> (try split at c13) <;> (repeat' split) <;> omega
end STD
