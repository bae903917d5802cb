/-! THREADTOWN READS: sums -/
set_option maxRecDepth 100000
section XSUM
variable {G : am_G} {L L' L2 : am_L} {h h' h2 : am_H} {x D N a c : Int} {b : Int → Int} {d : Nat} {Q : am_O → am_L → am_H → Prop}
theorem C_X16_init (hk : kd L c ≠ 99) (k : Q (.inl []) L h) : am_C G mX16_init (d + 1) [aR c] L h Q := by
  refine x_start okX16_init rfl rfl rfl rfl ?_
  refine x_aload_0 dX16_init_0 ?_
  refine x_objInit dX16_init_1 q1140 q158 q159 (by omega) rfl ?_
  refine x_ret dX16_init_4 rfl ?_
  exact k
theorem C_X17_init {v : Int} (hk : kd L c = 17) (h2 : 200 ≤ c) (hv : rg32 v) (k : Q (.inl []) (am_pf L c 0 v) h) : am_C G mX17_init (d + 2) [aR c, aI v] L h Q := by
  refine x_start okX17_init rfl rfl rfl rfl ?_
  refine x_aload_0 dX17_init_0 ?_
  refine x_callIN0 dX17_init_1 rfl okX16_init rfl rfl q1137 q1138 (by omega) rfl (C_X16_init (by omega) (x_k0 ?_))
  refine x_aload_0 dX17_init_4 ?_
  refine x_iload_1 dX17_init_5 ?_
  refine x_putCI dX17_init_6 fl1141_17 rfl rfl (by assumption) (by omega) (by exact hv) ?_
  refine x_ret dX17_init_9 rfl ?_
  exact k
theorem C_X18_init {v : Int} (hk : kd L c = 18) (h2 : 200 ≤ c) (hv : rg32 v) (k : Q (.inl []) (am_pf L c 0 v) h) : am_C G mX18_init (d + 2) [aR c, aI v] L h Q := by
  refine x_start okX18_init rfl rfl rfl rfl ?_
  refine x_aload_0 dX18_init_0 ?_
  refine x_callIN0 dX18_init_1 rfl okX16_init rfl rfl q1150 q1138 (by omega) rfl (C_X16_init (by omega) (x_k0 ?_))
  refine x_aload_0 dX18_init_4 ?_
  refine x_iload_1 dX18_init_5 ?_
  refine x_putCI dX18_init_6 fl1151_18 rfl rfl (by assumption) (by omega) (by exact hv) ?_
  refine x_ret dX18_init_9 rfl ?_
  exact k
theorem C_X19_init {v p q : Int} (hk : kd L c = 19) (h2 : 200 ≤ c) (hv : rg32 v) (k : Q (.inl []) (am_pf (am_pf (am_pf L c 0 v) c 1 p) c 2 q) h) : am_C G mX19_init (d + 2) [aR c, aI v, aR p, aR q] L h Q := by
  refine x_start okX19_init rfl rfl rfl rfl ?_
  refine x_aload_0 dX19_init_0 ?_
  refine x_callIN0 dX19_init_1 rfl okX16_init rfl rfl q1160 q1138 (by omega) rfl (C_X16_init (by omega) (x_k0 ?_))
  refine x_aload_0 dX19_init_4 ?_
  refine x_iload_1 dX19_init_5 ?_
  refine x_putCI dX19_init_6 fl1161_19 rfl rfl (by assumption) (by omega) (by exact hv) ?_
  refine x_aload_0 dX19_init_9 ?_
  refine x_aload_2 dX19_init_10 ?_
  refine x_putCR dX19_init_11 fl1162_19 rfl trivial rfl rfl (by assumption) (by omega) ?_
  refine x_aload_0 dX19_init_14 ?_
  refine x_aload_3 dX19_init_15 ?_
  refine x_putCR dX19_init_16 fl1163_19 rfl trivial rfl rfl (by assumption) (by omega) ?_
  refine x_ret dX19_init_19 rfl ?_
  exact k
/-- an int token's digits -/
theorem RdX.num (r : RdX L h x b D N) (ha : inN N a) (hk : sK b D a = 2) : (0 ≤ sP b D a ∧ tkE b D (sP b D a) ≤ 2000 ∧ 1 ≤ tkE b D (sP b D a) - sP b D a ∧ tkE b D (sP b D a) - sP b D a ≤ 4) ∧ (∀ i, sP b D a ≤ i → i < tkE b D (sP b D a) → 48 ≤ h (x + 4) i ∧ h (x + 4) i ≤ 57) ∧ numN (fun i => h (x + 4) (sP b D a + i)) (tkE b D (sP b D a) - sP b D a).toNat = tkV b D (sP b D a) ∧ (0 ≤ tkV b D (sP b D a) ∧ tkV b D (sP b D a) ≤ 9999) := by
  have hpl := r.pl ha.1
  have hD := r.2.2.1
  have hp : sP b D a < D := by
    rcases Int.lt_or_le (sP b D a) D with q | q
    · exact q
    · have := sK_0.mpr q
      omega
  have hK : tkK b D (sP b D a) = 2 := hk
  have hks := kdS_rg (b (sP b D a))
  have hkw := kwOf_rg (tkI b D (sP b D a))
  unfold tkK at hK
  rw [if_neg (by omega)] at hK
  split at hK
  · exfalso
    (repeat' split at hK) <;> omega
  · rename_i hl
    split at hK
    · rename_i hg
      split at hK
      · omega
      · rename_i hlen
        have hle := tkE_le (b := b) hpl.1 hp hD.2
        have hgi := tkE_Gi hp hl hg
        have hb := r.2.2.2.1
        have hcg : numN (fun i => h (x + 4) (sP b D a + i)) (tkE b D (sP b D a) - sP b D a).toNat = tkV b D (sP b D a) := numN_cg _ fun i z => hb (sP b D a + i) (by omega) (hgi _ (by omega) (by omega)).1
        unfold tkL at hlen
        have hbd := numN_bd (f := fun i => b (sP b D a + i)) (tkL b D (sP b D a)).toNat (fun j z => (hgi (sP b D a + j) (by omega) (by unfold tkL at z; omega)).2)
        have hpw : (10 : Int) ^ (tkL b D (sP b D a)).toNat ≤ 10000 := by
          have : ∀ j : Nat, j ≤ 4 → (10 : Int) ^ j ≤ 10000 := by
            intro j hj
            have : j = 0 ∨ j = 1 ∨ j = 2 ∨ j = 3 ∨ j = 4 := by omega
            rcases this with q | q | q | q | q <;> rw [q] <;> decide
          exact this _ (by unfold tkL; omega)
        refine ⟨by omega, fun i z0 z1 => ?_, hcg, ?_⟩
        · have := hgi i z0 z1
          rw [hb i (by omega) this.1]
          exact this.2
        · have e : tkV b D (sP b D a) = numN (fun i => b (sP b D a + i)) (tkL b D (sP b D a)).toNat := rfl
          rw [e]
          omega
    · omega
/-- a name token's letters -/
theorem RdX.nam (r : RdX L h x b D N) (ha : inN N a) (hk : sK b D a = 1) : (0 ≤ sP b D a ∧ tkE b D (sP b D a) ≤ 2000 ∧ 1 ≤ tkE b D (sP b D a) - sP b D a ∧ tkE b D (sP b D a) - sP b D a ≤ 8) ∧ (∀ i, sP b D a ≤ i → i < tkE b D (sP b D a) → 97 ≤ h (x + 4) i ∧ h (x + 4) i ≤ 122) ∧ idN (fun i => h (x + 4) (sP b D a + i)) (tkE b D (sP b D a) - sP b D a).toNat = tkI b D (sP b D a) := by
  have hpl := r.pl ha.1
  have hD := r.2.2.1
  have hp : sP b D a < D := by
    rcases Int.lt_or_le (sP b D a) D with q | q
    · exact q
    · have := sK_0.mpr q
      omega
  have hK : tkK b D (sP b D a) = 1 := hk
  have hks := kdS_rg (b (sP b D a))
  have hkw := kwOf_rg (tkI b D (sP b D a))
  unfold tkK at hK
  rw [if_neg (by omega)] at hK
  split at hK
  · rename_i hl
    have hle := tkE_le (b := b) hpl.1 hp hD.2
    have hli := tkE_Li hp hl
    have hb := r.2.2.2.1
    have hlen : ¬ 8 < tkL b D (sP b D a) := by
      intro z
      rw [if_pos z] at hK
      omega
    unfold tkL at hlen
    refine ⟨by omega, fun i z0 z1 => ?_, idN_cg _ fun i z => hb (sP b D a + i) (by omega) (hli _ (by omega) (by omega)).1⟩
    have := hli i z0 z1
    rw [hb i (by omega) this.1]
    exact this.2
  · exfalso
    (repeat' split at hK) <;> omega
/-- the kinds and values that the parser sees -/
def sV (b : Int → Int) (D n : Int) : Int := tkV b D (sP b D n)
def sJ (b : Int → Int) (D n : Int) : Int := tkI b D (sP b D n)
/-- the sum at a tells ta, all of it lies from c on -/
def SumF : Nat → am_L → Int → Int → Tau → Prop
  | 0, _, _, _, _ => False
  | n + 1, L, c, a, ta => c ≤ a ∧ ((kd L a = 17 ∧ ta = fun _ => (fF L a 0, 0)) ∨ (kd L a = 18 ∧ (0 ≤ fF L a 0 ∧ fF L a 0 < 6) ∧ ta = fun v => (v (fF L a 0), 0)) ∨
    (kd L a = 19 ∧ ∃ t1 t2 : Tau, SumF n L c (fF L a 1) t1 ∧ SumF n L c (fF L a 2) t2 ∧ ta = jnT (fF L a 0) t1 t2))
theorem SumF.n {L : am_L} {c : Int} : ∀ (n : Nat) {a : Int} {ta : Tau}, SumF n L c a ta → SumN n L a ta
  | 0, _, _, h => h.elim
  | n + 1, a, ta, h => by
    rcases h.2 with h | h | ⟨h1, t1, t2, h2, h3, h4⟩
    · exact Or.inl h
    · exact Or.inr (Or.inl h)
    · exact Or.inr (Or.inr ⟨h1, t1, t2, SumF.n n h2, SumF.n n h3, h4⟩)
theorem SumF.mono {L : am_L} {c : Int} : ∀ (n : Nat) {a : Int} {ta : Tau}, SumF n L c a ta → SumF (n + 1) L c a ta
  | 0, _, _, h => h.elim
  | n + 1, a, ta, h => by
    refine ⟨h.1, ?_⟩
    rcases h.2 with h | h | ⟨h1, t1, t2, h2, h3, h4⟩
    · exact Or.inl h
    · exact Or.inr (Or.inl h)
    · exact Or.inr (Or.inr ⟨h1, t1, t2, SumF.mono n h2, SumF.mono n h3, h4⟩)
theorem SumF.le {L : am_L} {c a : Int} {ta : Tau} {n m : Nat} (h : n ≤ m) (hs : SumF n L c a ta) : SumF m L c a ta := by
  induction h with
  | refl => exact hs
  | step _ ih => exact SumF.mono _ ih
theorem SumF.dn {L : am_L} {c c' : Int} (hc : c' ≤ c) : ∀ (n : Nat) {a : Int} {ta : Tau}, SumF n L c a ta → SumF n L c' a ta
  | 0, _, _, h => h.elim
  | n + 1, a, ta, h => by
    refine ⟨by have := h.1; omega, ?_⟩
    rcases h.2 with h | h | ⟨h1, t1, t2, h2, h3, h4⟩
    · exact Or.inl h
    · exact Or.inr (Or.inl h)
    · exact Or.inr (Or.inr ⟨h1, t1, t2, SumF.dn hc n h2, SumF.dn hc n h3, h4⟩)
theorem SumF.lb {L L' : am_L} {c c2 : Int} (hw : hwL L c2) (hl : LB L L' c2) : ∀ (n : Nat) {a : Int} {ta : Tau}, SumF n L c a ta → SumF n L' c a ta
  | 0, _, _, h => h.elim
  | n + 1, a, ta, h => by
    refine ⟨h.1, ?_⟩
    rcases h.2 with ⟨h1, h2⟩ | ⟨h1, h2, h3⟩ | ⟨h1, t1, t2, h2, h3, h4⟩
    · have e := hl a (hw _ (by omega))
      exact Or.inl ⟨e.1.trans h1, by rw [e.2.2]; exact h2⟩
    · have e := hl a (hw _ (by omega))
      exact Or.inr (Or.inl ⟨e.1.trans h1, by rw [e.2.2]; exact h2, by rw [e.2.2]; exact h3⟩)
    · have e := hl a (hw _ (by omega))
      exact Or.inr (Or.inr ⟨e.1.trans h1, t1, t2, by rw [e.2.2]; exact SumF.lb hw hl n h2, by rw [e.2.2]; exact SumF.lb hw hl n h3, by rw [e.2.2]; exact h4⟩)
theorem SumF.pf {L : am_L} {c v j w : Int} (hv : v < c) : ∀ (n : Nat) {a : Int} {ta : Tau}, SumF n L c a ta → SumF n (am_pf L v j w) c a ta
  | 0, _, _, h => h.elim
  | n + 1, a, ta, h => by
    have e : ∀ i, fF (am_pf L v j w) a i = fF L a i := fun i => by rw [fF_pf, if_neg (by have := h.1; omega)]
    refine ⟨h.1, ?_⟩
    rcases h.2 with ⟨h1, h2⟩ | ⟨h1, h2, h3⟩ | ⟨h1, t1, t2, h2, h3, h4⟩
    · exact Or.inl ⟨h1, by rw [e]; exact h2⟩
    · exact Or.inr (Or.inl ⟨h1, by rw [e]; exact h2, by rw [e]; exact h3⟩)
    · exact Or.inr (Or.inr ⟨h1, t1, t2, by rw [e]; exact SumF.pf hv n h2, by rw [e]; exact SumF.pf hv n h3, by rw [e]; exact h4⟩)
/-- a method that reads a sum or a part of one, at depth e, o being open -/
def XC (G : am_G) (x : Int) (b : Int → Int) (D N : Int) (M : am_M) (m e : Nat) (o : Int) (f : Nat) : Prop := ∀ (L : am_L) (h : am_H) (Q : am_O → am_L → am_H → Prop) (a : Int) (t0 : Tau), RdX L h x b D N → h (x + 9) 3 = a → h (x + 9) 4 = o → inN N a → rkE m a < f →
  (∀ ta a' L' h' r, pE (sK b D) (sV b D) f m o a t0 = .inl (ta, a') → a < a' → inN N a' → XG L h L' h' x (a' - a) → SumF (a' - a).toNat L' (nx L) r ta → h' (x + 9) 3 = a' → (∀ j, j ≠ 3 → h' (x + 9) j = h (x + 9) j) → Q (.inl [aR r]) L' h') →
  (∀ n tk L' h', pE (sK b D) (sV b D) f m o a t0 = .inr (n, tk) → XG L h L' h' x (401 - a) → (0 ≤ tk ∧ tk ≤ N) → h' (x + 1) 6 = n → h' (x + 1) 7 = sP b D tk → Q (.inr (x + 1)) L' h') → am_C G M e [aR (x + 9)] L h Q
/-- its loop -/
def XW (G : am_G) (x : Int) (b : Int → Int) (D N : Int) (M : am_M) (m e : Nat) (o : Int) (f : Nat) : Prop := ∀ (n : Nat) (L : am_L) (h : am_H) (Q : am_O → am_L → am_H → Prop) (a r c : Int) (ta : Tau), c ≤ nx L → RdX L h x b D N → h (x + 9) 3 = a → h (x + 9) 4 = o → inN N a → rkE m a < f → SumF n L c r ta →
  (∀ ta' a' L' h' r', pE (sK b D) (sV b D) f m o a ta = .inl (ta', a') → a ≤ a' → inN N a' → XG L h L' h' x (a' - a) → SumF (n + (a' - a).toNat) L' c r' ta' → h' (x + 9) 3 = a' → (∀ j, j ≠ 3 → h' (x + 9) j = h (x + 9) j) → Q (.inl [aR r']) L' h') →
  (∀ n tk L' h', pE (sK b D) (sV b D) f m o a ta = .inr (n, tk) → XG L h L' h' x (401 - a) → (0 ≤ tk ∧ tk ≤ N) → h' (x + 1) 6 = n → h' (x + 1) 7 = sP b D tk → Q (.inr (x + 1)) L' h') → am_X G M e 5 [aR (x + 9), aR r, aU] [] L h Q
theorem XG.new {L : am_L} {h : am_H} {x v : Int} {k : Nat} {n : Int} (hn : n ≤ 100) (hv : nx L ≤ v) {j w : Int} : XG L h (am_pf (am_al L k n) v j w) h x 1 :=
  ⟨((LB.rf L (nx L)).al (Int.le_refl _)).pf hv, ⟨by rw [nx_pf, nx_al]; omega, by rw [nx_pf, nx_al]; omega⟩, by rw [us_pf, us_al]; omega, fun _ _ _ _ => rfl⟩
theorem XG.al {L : am_L} {h : am_H} {x : Int} {k : Nat} {n : Int} (hn : n ≤ 100) : XG L h (am_al L k n) h x 1 :=
  ⟨(LB.rf L (nx L)).al (Int.le_refl _), ⟨by rw [nx_al]; omega, by rw [nx_al]; omega⟩, by rw [us_al]; omega, fun _ _ _ _ => rfl⟩
set_option maxHeartbeats 2000000 in
theorem XU_s {f e : Nat} {o : Int} (ho : 0 ≤ o ∧ o ≤ 6) (hS : o < 6 → XC G x b D N mX3_sum 3 (e + 5) (o + 1) f) : XC G x b D N mX3_unit 0 (e + 6) o (f + 1) := by
  intro L h Q a t0 hR hat hop ha hrk kS kF
  have hK := hR.mk
  have ha0 := ha.1
  have ha4 := ha.2
  have htk := hR.tk ha.1
  have hrg : 0 ≤ sK b D a ∧ sK b D a ≤ 36 := tkK_rg b D _
  have hsr := srt_rg (sK b D a)
  have hND : N ≤ 2000 := by have := hR.2.2.2.2.2.1; have := hR.2.2.1; omega
  have hx := hR.2.1
  have g0 : ∀ n pl, XG L h L (fltH h x n pl) x (401 - a) := fun n pl => ((XG.rf L h x).flt).le (by omega)
  have hs3 : srt (sK b D a) = 3 ↔ 20 ≤ sK b D a := by unfold srt; (repeat' split) <;> omega
  have hs1 : srt (sK b D a) = 1 ↔ sK b D a = 2 := by unfold srt; (repeat' split) <;> omega
  by_cases q4 : 400 ≤ a
  · -- no more tokens may be passed
    have hF : ∀ n, pE (sK b D) (sV b D) (f + 1) 0 o a t0 = .inr (n, a) → 0 ≤ n ∧ n ≤ 6 → True := fun _ _ _ => trivial
    by_cases q2 : sK b D a = 2 ∨ (31 ≤ sK b D a ∧ sK b D a ≤ 36)
    · have hpE : pE (sK b D) (sV b D) (f + 1) 0 o a t0 = .inr (2, a) := by
        rw [pE]
        rcases q2 with q | q
        · rw [if_pos q, if_pos q4]
        · rw [if_neg (by omega), if_pos q, if_pos q4]
      refine x_start okX3_unit rfl rfl rfl rfl ?_
      refine x_aload_0 dX3_unit_0 ?_
      refine x_callV0 dX3_unit_1 rfl okX3_sort q744 q746 qs9 (by first | first | assumption | (simp only [kd_pf, kd_al, nx_pf, nx_al, true_and, and_true]; (repeat (first | rw [if_neg (by omega)] | rw [if_pos (by omega)] | rw [if_pos trivial])); first | done | assumption | rfl) | (exact MkL.k_parser (by assumption))) am_k3 rfl (C_X3_sort hR hat ha (fun q3 => (x_k1 ?_)) (fun z => by exfalso; omega))
      refine x_iconst dX3_unit_4 ?_
      refine x_icmp_ne (tgt := 33) dX3_unit_5 rfl (by omega) (by omega) (fun c5 => ?_) (fun c5 => ?_)
      · refine x_aload_0 dX3_unit_33 ?_
        refine x_callV0 dX3_unit_34 rfl okX3_sort q744 q746 qs9 (by first | first | assumption | (simp only [kd_pf, kd_al, nx_pf, nx_al, true_and, and_true]; (repeat (first | rw [if_neg (by omega)] | rw [if_pos (by omega)] | rw [if_pos trivial])); first | done | assumption | rfl) | (exact MkL.k_parser (by assumption))) am_k3 rfl (C_X3_sort hR hat ha (fun q3 => (x_k1 ?_)) (fun z => by exfalso; omega))
        refine x_iconst dX3_unit_37 ?_
        refine x_icmp_ne (tgt := 87) dX3_unit_38 rfl (by omega) (by omega) (fun c38 => ?_) (fun c38 => ?_)
        · exfalso; omega
        · refine x_aload_0 dX3_unit_41 ?_
          refine x_getR dX3_unit_42 fl296_3 rfl (by first | (exact MkL.k_parser (by assumption)) | (first | assumption | (simp only [kd_pf, kd_al, nx_pf, nx_al, true_and, and_true]; (repeat (first | rw [if_neg (by omega)] | rw [if_pos (by omega)] | rw [if_pos trivial])); first | done | assumption | rfl))) (by first | (exact MkL.v_t (by assumption)) | (assumption)) ?_
          refine x_getR dX3_unit_45 fl270_2 rfl (by first | (exact MkL.k_tokens (by assumption)) | (first | assumption | (simp only [kd_pf, kd_al, nx_pf, nx_al, true_and, and_true]; (repeat (first | rw [if_neg (by omega)] | rw [if_pos (by omega)] | rw [if_pos trivial])); first | done | assumption | rfl))) (by first | (exact MkL.v_what (by assumption)) | (assumption)) ?_
          refine x_aload_0 dX3_unit_48 ?_
          refine x_getI_ dX3_unit_49 fl299_3 (by first | (exact MkL.k_parser (by assumption)) | (first | assumption | (simp only [kd_pf, kd_al, nx_pf, nx_al, true_and, and_true]; (repeat (first | rw [if_neg (by omega)] | rw [if_pos (by omega)] | rw [if_pos trivial])); first | done | assumption | rfl))) (fun r49 => ?_)
          rw [hat] at r49 ⊢
          refine x_sald_ dX3_unit_52 (by first | (exact MkL.k_what (by assumption)) | (first | assumption | (simp only [kd_pf, kd_al, nx_pf, nx_al, true_and, and_true]; (repeat (first | rw [if_neg (by omega)] | rw [if_pos (by omega)] | rw [if_pos trivial])); first | done | assumption | rfl))) (by first | (exact MkL.x_what (by assumption) (by omega) (by omega)) | (omega)) (fun r52 => ?_)
          rw [htk.2.2.2 (by omega), if_neg (by omega)] at r52 ⊢
          refine x_bipush dX3_unit_53 rfl ?_
          refine x_icmp_lt (tgt := 87) dX3_unit_55 rfl (by omega) (by omega) (fun c55 => ?_) (fun c55 => ?_)
          · exfalso; omega
          · refine x_aload_0 dX3_unit_58 ?_
            refine x_callV0 dX3_unit_59 rfl okX3_pass q764 q766 qs13 (by first | first | assumption | (simp only [kd_pf, kd_al, nx_pf, nx_al, true_and, and_true]; (repeat (first | rw [if_neg (by omega)] | rw [if_pos (by omega)] | rw [if_pos trivial])); first | done | assumption | rfl) | (exact MkL.k_parser (by assumption))) am_k3 rfl (C_X3_pass hR hat ha (fun z => by exfalso; omega) (fun z => x_kx ⟨hK.k_fault, kF _ _ _ _ hpE (g0 _ _) ha.1 fltH_6 fltH_7⟩))
            skip
      · refine x_aload_0 dX3_unit_8 ?_
        refine x_callV0 dX3_unit_9 rfl okX3_pass q764 q766 qs13 (by first | first | assumption | (simp only [kd_pf, kd_al, nx_pf, nx_al, true_and, and_true]; (repeat (first | rw [if_neg (by omega)] | rw [if_pos (by omega)] | rw [if_pos trivial])); first | done | assumption | rfl) | (exact MkL.k_parser (by assumption))) am_k3 rfl (C_X3_pass hR hat ha (fun z => by exfalso; omega) (fun z => x_kx ⟨hK.k_fault, kF _ _ _ _ hpE (g0 _ _) ha.1 fltH_6 fltH_7⟩))
        skip
    · have hk40 : kdS 40 = 6 := by decide
      have hpE : pE (sK b D) (sV b D) (f + 1) 0 o a t0 = .inr (if sK b D a = 6 then 2 else 1, a) := by
        rw [pE, if_neg (by omega), if_neg (by omega)]
        by_cases q6 : sK b D a = 6
        · rw [if_neg (by omega), if_pos q6]
          (repeat' split) <;> first | rfl | omega
        · rw [if_pos q6, if_neg q6]
      have hR2 : RdX L (am_st h (x + 9) 4 (o + 1)) x b D N := hR.st9
      refine x_start okX3_unit rfl rfl rfl rfl ?_
      refine x_aload_0 dX3_unit_0 ?_
      refine x_callV0 dX3_unit_1 rfl okX3_sort q744 q746 qs9 (by first | first | assumption | (simp only [kd_pf, kd_al, nx_pf, nx_al, true_and, and_true]; (repeat (first | rw [if_neg (by omega)] | rw [if_pos (by omega)] | rw [if_pos trivial])); first | done | assumption | rfl) | (exact MkL.k_parser (by assumption))) am_k3 rfl (C_X3_sort hR hat ha (fun q3 => (x_k1 ?_)) (fun z => x_kx ⟨hK.k_fault, kF _ _ _ _ hpE (g0 _ _) ha.1 (by rw [if_neg (by omega)]; exact fltH_6) fltH_7⟩))
      refine x_iconst dX3_unit_4 ?_
      refine x_icmp_ne (tgt := 33) dX3_unit_5 rfl (by omega) (by omega) (fun c5 => ?_) (fun c5 => ?_)
      · refine x_aload_0 dX3_unit_33 ?_
        refine x_callV0 dX3_unit_34 rfl okX3_sort q744 q746 qs9 (by first | first | assumption | (simp only [kd_pf, kd_al, nx_pf, nx_al, true_and, and_true]; (repeat (first | rw [if_neg (by omega)] | rw [if_pos (by omega)] | rw [if_pos trivial])); first | done | assumption | rfl) | (exact MkL.k_parser (by assumption))) am_k3 rfl (C_X3_sort hR hat ha (fun q3 => (x_k1 ?_)) (fun z => by exfalso; omega))
        refine x_iconst dX3_unit_37 ?_
        refine x_icmp_ne (tgt := 87) dX3_unit_38 rfl (by omega) (by omega) (fun c38 => ?_) (fun c38 => ?_)
        · refine x_aload_0 dX3_unit_87 ?_
          refine x_bipush dX3_unit_88 rfl ?_
          refine x_callV1 dX3_unit_90 rfl okX3_isSign q1112 q1114 qs25 (by first | first | assumption | (simp only [kd_pf, kd_al, nx_pf, nx_al, true_and, and_true]; (repeat (first | rw [if_neg (by omega)] | rw [if_pos (by omega)] | rw [if_pos trivial])); first | done | assumption | rfl) | (exact MkL.k_parser (by assumption))) am_k3 rfl (C_X3_isSign hR hat ha (by decide) (by decide) (x_k1 ?_))
          refine x_if_ne (tgt := 102) dX3_unit_93 rfl (by split <;> omega) (fun c93 => ?_) (fun c93 => ?_)
          · refine x_aload_0 dX3_unit_102 ?_
            refine x_getI_ dX3_unit_103 fl300_3 (by first | (exact MkL.k_parser (by assumption)) | (first | assumption | (simp only [kd_pf, kd_al, nx_pf, nx_al, true_and, and_true]; (repeat (first | rw [if_neg (by omega)] | rw [if_pos (by omega)] | rw [if_pos trivial])); first | done | assumption | rfl))) (fun r103 => ?_)
            rw [hop] at r103 ⊢
            refine x_bipush dX3_unit_106 rfl ?_
            refine x_icmp_ne (tgt := 117) dX3_unit_108 rfl (by omega) (by omega) (fun c108 => ?_) (fun c108 => ?_)
            · refine x_aload_0 dX3_unit_117 ?_
              refine x_dup dX3_unit_118 rfl ?_
              refine x_getI_ dX3_unit_119 fl300_3 (by first | (exact MkL.k_parser (by assumption)) | (first | assumption | (simp only [kd_pf, kd_al, nx_pf, nx_al, true_and, and_true]; (repeat (first | rw [if_neg (by omega)] | rw [if_pos (by omega)] | rw [if_pos trivial])); first | done | assumption | rfl))) (fun r119 => ?_)
              rw [hop] at r119 ⊢
              refine x_iconst dX3_unit_122 ?_
              refine x_iadd dX3_unit_123 ?_
              refine x_putI_ dX3_unit_124 fl300_3 (by first | (exact MkL.k_parser (by assumption)) | (first | assumption | (simp only [kd_pf, kd_al, nx_pf, nx_al, true_and, and_true]; (repeat (first | rw [if_neg (by omega)] | rw [if_pos (by omega)] | rw [if_pos trivial])); first | done | assumption | rfl))) (by omega) ?_
              refine x_aload_0 dX3_unit_127 ?_
              refine x_callV0 dX3_unit_128 rfl okX3_pass q764 q766 qs13 (by first | first | assumption | (simp only [kd_pf, kd_al, nx_pf, nx_al, true_and, and_true]; (repeat (first | rw [if_neg (by omega)] | rw [if_pos (by omega)] | rw [if_pos trivial])); first | done | assumption | rfl) | (exact MkL.k_parser (by assumption))) am_k3 rfl (C_X3_pass hR2 (by rw [am_st_i (by decide)]; exact hat) ha (fun z => by exfalso; omega) (fun z => x_kx ⟨hK.k_fault, kF _ _ _ _ hpE ((XG.rf L h x).st9.flt.le (by omega)) ha.1 (by rw [if_pos (by rw [hk40] at c93; split at c93 <;> first | assumption | omega)]; exact fltH_6) fltH_7⟩))
              skip
            · refine x_aload_0 dX3_unit_111 ?_
              refine x_iconst dX3_unit_112 ?_
              refine x_callV1 dX3_unit_113 rfl okX3_wrong q748 q750 qs10 (by first | first | assumption | (simp only [kd_pf, kd_al, nx_pf, nx_al, true_and, and_true]; (repeat (first | rw [if_neg (by omega)] | rw [if_pos (by omega)] | rw [if_pos trivial])); first | done | assumption | rfl) | (exact MkL.k_parser (by assumption))) am_k3 rfl (C_X3_wrong hR hat ha.1 (by decide) (x_k1 ?_))
              refine x_athrow dX3_unit_116 rfl (by exact hK.k_fault) ?_
              exact kF _ _ _ _ hpE (g0 _ _) ha.1 (by rw [if_pos (by rw [hk40] at c93; split at c93 <;> first | assumption | omega)]; exact fltH_6) fltH_7
          · refine x_aload_0 dX3_unit_96 ?_
            refine x_iconst dX3_unit_97 ?_
            refine x_callV1 dX3_unit_98 rfl okX3_wrong q748 q750 qs10 (by first | first | assumption | (simp only [kd_pf, kd_al, nx_pf, nx_al, true_and, and_true]; (repeat (first | rw [if_neg (by omega)] | rw [if_pos (by omega)] | rw [if_pos trivial])); first | done | assumption | rfl) | (exact MkL.k_parser (by assumption))) am_k3 rfl (C_X3_wrong hR hat ha.1 (by decide) (x_k1 ?_))
            refine x_athrow dX3_unit_101 rfl (by exact hK.k_fault) ?_
            exact kF _ _ _ _ hpE (g0 _ _) ha.1 (by rw [if_neg (fun z => by rw [hk40, if_pos z] at c93; exact absurd c93 (by decide))]; exact fltH_6) fltH_7
        · refine x_aload_0 dX3_unit_41 ?_
          refine x_getR dX3_unit_42 fl296_3 rfl (by first | (exact MkL.k_parser (by assumption)) | (first | assumption | (simp only [kd_pf, kd_al, nx_pf, nx_al, true_and, and_true]; (repeat (first | rw [if_neg (by omega)] | rw [if_pos (by omega)] | rw [if_pos trivial])); first | done | assumption | rfl))) (by first | (exact MkL.v_t (by assumption)) | (assumption)) ?_
          refine x_getR dX3_unit_45 fl270_2 rfl (by first | (exact MkL.k_tokens (by assumption)) | (first | assumption | (simp only [kd_pf, kd_al, nx_pf, nx_al, true_and, and_true]; (repeat (first | rw [if_neg (by omega)] | rw [if_pos (by omega)] | rw [if_pos trivial])); first | done | assumption | rfl))) (by first | (exact MkL.v_what (by assumption)) | (assumption)) ?_
          refine x_aload_0 dX3_unit_48 ?_
          refine x_getI_ dX3_unit_49 fl299_3 (by first | (exact MkL.k_parser (by assumption)) | (first | assumption | (simp only [kd_pf, kd_al, nx_pf, nx_al, true_and, and_true]; (repeat (first | rw [if_neg (by omega)] | rw [if_pos (by omega)] | rw [if_pos trivial])); first | done | assumption | rfl))) (fun r49 => ?_)
          rw [hat] at r49 ⊢
          refine x_sald_ dX3_unit_52 (by first | (exact MkL.k_what (by assumption)) | (first | assumption | (simp only [kd_pf, kd_al, nx_pf, nx_al, true_and, and_true]; (repeat (first | rw [if_neg (by omega)] | rw [if_pos (by omega)] | rw [if_pos trivial])); first | done | assumption | rfl))) (by first | (exact MkL.x_what (by assumption) (by omega) (by omega)) | (omega)) (fun r52 => ?_)
          rw [htk.2.2.2 (by omega), if_neg (by omega)] at r52 ⊢
          refine x_bipush dX3_unit_53 rfl ?_
          refine x_icmp_lt (tgt := 87) dX3_unit_55 rfl (by omega) (by omega) (fun c55 => ?_) (fun c55 => ?_)
          · refine x_aload_0 dX3_unit_87 ?_
            refine x_bipush dX3_unit_88 rfl ?_
            refine x_callV1 dX3_unit_90 rfl okX3_isSign q1112 q1114 qs25 (by first | first | assumption | (simp only [kd_pf, kd_al, nx_pf, nx_al, true_and, and_true]; (repeat (first | rw [if_neg (by omega)] | rw [if_pos (by omega)] | rw [if_pos trivial])); first | done | assumption | rfl) | (exact MkL.k_parser (by assumption))) am_k3 rfl (C_X3_isSign hR hat ha (by decide) (by decide) (x_k1 ?_))
            refine x_if_ne (tgt := 102) dX3_unit_93 rfl (by split <;> omega) (fun c93 => ?_) (fun c93 => ?_)
            · refine x_aload_0 dX3_unit_102 ?_
              refine x_getI_ dX3_unit_103 fl300_3 (by first | (exact MkL.k_parser (by assumption)) | (first | assumption | (simp only [kd_pf, kd_al, nx_pf, nx_al, true_and, and_true]; (repeat (first | rw [if_neg (by omega)] | rw [if_pos (by omega)] | rw [if_pos trivial])); first | done | assumption | rfl))) (fun r103 => ?_)
              rw [hop] at r103 ⊢
              refine x_bipush dX3_unit_106 rfl ?_
              refine x_icmp_ne (tgt := 117) dX3_unit_108 rfl (by omega) (by omega) (fun c108 => ?_) (fun c108 => ?_)
              · refine x_aload_0 dX3_unit_117 ?_
                refine x_dup dX3_unit_118 rfl ?_
                refine x_getI_ dX3_unit_119 fl300_3 (by first | (exact MkL.k_parser (by assumption)) | (first | assumption | (simp only [kd_pf, kd_al, nx_pf, nx_al, true_and, and_true]; (repeat (first | rw [if_neg (by omega)] | rw [if_pos (by omega)] | rw [if_pos trivial])); first | done | assumption | rfl))) (fun r119 => ?_)
                rw [hop] at r119 ⊢
                refine x_iconst dX3_unit_122 ?_
                refine x_iadd dX3_unit_123 ?_
                refine x_putI_ dX3_unit_124 fl300_3 (by first | (exact MkL.k_parser (by assumption)) | (first | assumption | (simp only [kd_pf, kd_al, nx_pf, nx_al, true_and, and_true]; (repeat (first | rw [if_neg (by omega)] | rw [if_pos (by omega)] | rw [if_pos trivial])); first | done | assumption | rfl))) (by omega) ?_
                refine x_aload_0 dX3_unit_127 ?_
                refine x_callV0 dX3_unit_128 rfl okX3_pass q764 q766 qs13 (by first | first | assumption | (simp only [kd_pf, kd_al, nx_pf, nx_al, true_and, and_true]; (repeat (first | rw [if_neg (by omega)] | rw [if_pos (by omega)] | rw [if_pos trivial])); first | done | assumption | rfl) | (exact MkL.k_parser (by assumption))) am_k3 rfl (C_X3_pass hR2 (by rw [am_st_i (by decide)]; exact hat) ha (fun z => by exfalso; omega) (fun z => x_kx ⟨hK.k_fault, kF _ _ _ _ hpE ((XG.rf L h x).st9.flt.le (by omega)) ha.1 (by rw [if_pos (by rw [hk40] at c93; split at c93 <;> first | assumption | omega)]; exact fltH_6) fltH_7⟩))
                skip
              · refine x_aload_0 dX3_unit_111 ?_
                refine x_iconst dX3_unit_112 ?_
                refine x_callV1 dX3_unit_113 rfl okX3_wrong q748 q750 qs10 (by first | first | assumption | (simp only [kd_pf, kd_al, nx_pf, nx_al, true_and, and_true]; (repeat (first | rw [if_neg (by omega)] | rw [if_pos (by omega)] | rw [if_pos trivial])); first | done | assumption | rfl) | (exact MkL.k_parser (by assumption))) am_k3 rfl (C_X3_wrong hR hat ha.1 (by decide) (x_k1 ?_))
                refine x_athrow dX3_unit_116 rfl (by exact hK.k_fault) ?_
                exact kF _ _ _ _ hpE (g0 _ _) ha.1 (by rw [if_pos (by rw [hk40] at c93; split at c93 <;> first | assumption | omega)]; exact fltH_6) fltH_7
            · refine x_aload_0 dX3_unit_96 ?_
              refine x_iconst dX3_unit_97 ?_
              refine x_callV1 dX3_unit_98 rfl okX3_wrong q748 q750 qs10 (by first | first | assumption | (simp only [kd_pf, kd_al, nx_pf, nx_al, true_and, and_true]; (repeat (first | rw [if_neg (by omega)] | rw [if_pos (by omega)] | rw [if_pos trivial])); first | done | assumption | rfl) | (exact MkL.k_parser (by assumption))) am_k3 rfl (C_X3_wrong hR hat ha.1 (by decide) (x_k1 ?_))
              refine x_athrow dX3_unit_101 rfl (by exact hK.k_fault) ?_
              exact kF _ _ _ _ hpE (g0 _ _) ha.1 (by rw [if_neg (fun z => by rw [hk40, if_pos z] at c93; exact absurd c93 (by decide))]; exact fltH_6) fltH_7
          · exfalso; omega
      · exfalso; omega
  · by_cases q2 : sK b D a = 2
    · have hpE : pE (sK b D) (sV b D) (f + 1) 0 o a t0 = .inl (fun _ => (sV b D a, 0), a + 1) := by
        rw [pE, if_pos q2, if_neg q4]
      have hg1 : XG L h (am_al L 17 1) (am_st h (x + 9) 3 (a + 1)) x 1 := (XG.al (by decide)).st9
      have hR1 := hR.up hg1
      have hn := hR1.num ha q2
      have htk1 := hR1.tk ha.1
      have hK1 := hR1.mk
      refine x_start okX3_unit rfl rfl rfl rfl ?_
      refine x_aload_0 dX3_unit_0 ?_
      refine x_callV0 dX3_unit_1 rfl okX3_sort q744 q746 qs9 (by first | first | assumption | (simp only [kd_pf, kd_al, nx_pf, nx_al, true_and, and_true]; (repeat (first | rw [if_neg (by omega)] | rw [if_pos (by omega)] | rw [if_pos trivial])); first | done | assumption | rfl) | (exact MkL.k_parser (by assumption))) am_k3 rfl (C_X3_sort hR hat ha (fun q3 => (x_k1 ?_)) (fun z => by exfalso; omega))
      refine x_iconst dX3_unit_4 ?_
      refine x_icmp_ne (tgt := 33) dX3_unit_5 rfl (by omega) (by omega) (fun c5 => ?_) (fun c5 => ?_)
      · exfalso; omega
      · refine x_aload_0 dX3_unit_8 ?_
        refine x_callV0 dX3_unit_9 rfl okX3_pass q764 q766 qs13 (by first | first | assumption | (simp only [kd_pf, kd_al, nx_pf, nx_al, true_and, and_true]; (repeat (first | rw [if_neg (by omega)] | rw [if_pos (by omega)] | rw [if_pos trivial])); first | done | assumption | rfl) | (exact MkL.k_parser (by assumption))) am_k3 rfl (C_X3_pass hR hat ha (fun z => (x_k0 ?_)) (fun z => by exfalso; omega))
        refine x_new dX3_unit_12 am_k17 q1132 q1133 q148 rfl (fun z12 => ?_)
        refine x_dup dX3_unit_15 rfl ?_
        refine x_aload_0 dX3_unit_16 ?_
        refine x_getR dX3_unit_17 fl296_3 rfl (by first | (exact MkL.k_parser (by assumption)) | (first | assumption | (simp only [kd_pf, kd_al, nx_pf, nx_al, true_and, and_true]; (repeat (first | rw [if_neg (by omega)] | rw [if_pos (by omega)] | rw [if_pos trivial])); first | done | assumption | rfl))) (by first | (exact MkL.v_t (by assumption)) | (assumption)) ?_
        refine x_aload_0 dX3_unit_20 ?_
        refine x_getI_ dX3_unit_21 fl299_3 (by first | (exact MkL.k_parser (by assumption)) | (first | assumption | (simp only [kd_pf, kd_al, nx_pf, nx_al, true_and, and_true]; (repeat (first | rw [if_neg (by omega)] | rw [if_pos (by omega)] | rw [if_pos trivial])); first | done | assumption | rfl))) (fun r21 => ?_)
        rw [am_st_s] at r21 ⊢
        refine x_iconst dX3_unit_24 ?_
        refine x_isub dX3_unit_25 ?_
        rw [show a + 1 - 1 = a by omega]
        refine x_callV1 dX3_unit_26 rfl okX2_number q776 q777 q778 (by first | first | assumption | (simp only [kd_pf, kd_al, nx_pf, nx_al, true_and, and_true]; (repeat (first | rw [if_neg (by omega)] | rw [if_pos (by omega)] | rw [if_pos trivial])); first | done | assumption | rfl) | (exact MkL.k_tokens (by assumption))) am_k2 rfl (C_X2_number (L := am_al L 17 1) hR1.mk (by omega) htk1.2.1 (htk1.2.2.1 (by omega)) hn.1 hn.2.1 (x_k1 ?_))
        rw [hn.2.2.1]
        refine x_callI1 dX3_unit_29 rfl okX17_init rfl rfl q1134 q1135 (by first | omega | (rw [kd_al, if_pos rfl]; decide)) rfl (C_X17_init (by rw [kd_al, if_pos rfl]) (by omega) ⟨by omega, by omega⟩ (x_k0 ?_))
        refine x_aret dX3_unit_32 rfl ?_
        refine kS _ _ _ _ _ hpE (by omega) (hR.nx ha (by omega) (by omega) (by omega)) ((XG.new (by decide) (Int.le_refl _)).st9.le (by omega)) ?_ am_st_s (fun j z => am_st_i z)
        rw [show (a + 1 - a).toNat = 1 by omega]
        refine ⟨Int.le_refl _, Or.inl ⟨by rw [kd_pf, kd_al, if_pos rfl], ?_⟩⟩
        rw [fF_pf, if_pos ⟨rfl, rfl⟩]
        rfl
    · by_cases q3 : 31 ≤ sK b D a
      · have hpE : pE (sK b D) (sV b D) (f + 1) 0 o a t0 = .inl (fun v => (v (sK b D a - 31), 0), a + 1) := by
          rw [pE, if_neg q2, if_pos ⟨q3, hrg.2⟩, if_neg q4]
        have hg1 : XG L h (am_al L 18 1) (am_st h (x + 9) 3 (a + 1)) x 1 := (XG.al (by decide)).st9
        have hR1 := hR.up hg1
        have htk1 := hR1.tk ha.1
        have h8 := htk.2.2.2 (by omega)
        rw [if_neg (by omega)] at h8
        have h81 := htk1.2.2.2 (by omega)
        rw [if_neg (by omega)] at h81
        have hK1 := hR1.mk
        refine x_start okX3_unit rfl rfl rfl rfl ?_
        refine x_aload_0 dX3_unit_0 ?_
        refine x_callV0 dX3_unit_1 rfl okX3_sort q744 q746 qs9 (by first | first | assumption | (simp only [kd_pf, kd_al, nx_pf, nx_al, true_and, and_true]; (repeat (first | rw [if_neg (by omega)] | rw [if_pos (by omega)] | rw [if_pos trivial])); first | done | assumption | rfl) | (exact MkL.k_parser (by assumption))) am_k3 rfl (C_X3_sort hR hat ha (fun q3 => (x_k1 ?_)) (fun z => by exfalso; omega))
        refine x_iconst dX3_unit_4 ?_
        refine x_icmp_ne (tgt := 33) dX3_unit_5 rfl (by omega) (by omega) (fun c5 => ?_) (fun c5 => ?_)
        · refine x_aload_0 dX3_unit_33 ?_
          refine x_callV0 dX3_unit_34 rfl okX3_sort q744 q746 qs9 (by first | first | assumption | (simp only [kd_pf, kd_al, nx_pf, nx_al, true_and, and_true]; (repeat (first | rw [if_neg (by omega)] | rw [if_pos (by omega)] | rw [if_pos trivial])); first | done | assumption | rfl) | (exact MkL.k_parser (by assumption))) am_k3 rfl (C_X3_sort hR hat ha (fun q3 => (x_k1 ?_)) (fun z => by exfalso; omega))
          refine x_iconst dX3_unit_37 ?_
          refine x_icmp_ne (tgt := 87) dX3_unit_38 rfl (by omega) (by omega) (fun c38 => ?_) (fun c38 => ?_)
          · exfalso; omega
          · refine x_aload_0 dX3_unit_41 ?_
            refine x_getR dX3_unit_42 fl296_3 rfl (by first | (exact MkL.k_parser (by assumption)) | (first | assumption | (simp only [kd_pf, kd_al, nx_pf, nx_al, true_and, and_true]; (repeat (first | rw [if_neg (by omega)] | rw [if_pos (by omega)] | rw [if_pos trivial])); first | done | assumption | rfl))) (by first | (exact MkL.v_t (by assumption)) | (assumption)) ?_
            refine x_getR dX3_unit_45 fl270_2 rfl (by first | (exact MkL.k_tokens (by assumption)) | (first | assumption | (simp only [kd_pf, kd_al, nx_pf, nx_al, true_and, and_true]; (repeat (first | rw [if_neg (by omega)] | rw [if_pos (by omega)] | rw [if_pos trivial])); first | done | assumption | rfl))) (by first | (exact MkL.v_what (by assumption)) | (assumption)) ?_
            refine x_aload_0 dX3_unit_48 ?_
            refine x_getI_ dX3_unit_49 fl299_3 (by first | (exact MkL.k_parser (by assumption)) | (first | assumption | (simp only [kd_pf, kd_al, nx_pf, nx_al, true_and, and_true]; (repeat (first | rw [if_neg (by omega)] | rw [if_pos (by omega)] | rw [if_pos trivial])); first | done | assumption | rfl))) (fun r49 => ?_)
            rw [hat] at r49 ⊢
            refine x_sald_ dX3_unit_52 (by first | (exact MkL.k_what (by assumption)) | (first | assumption | (simp only [kd_pf, kd_al, nx_pf, nx_al, true_and, and_true]; (repeat (first | rw [if_neg (by omega)] | rw [if_pos (by omega)] | rw [if_pos trivial])); first | done | assumption | rfl))) (by first | (exact MkL.x_what (by assumption) (by omega) (by omega)) | (omega)) (fun r52 => ?_)
            rw [h8] at r52 ⊢
            refine x_bipush dX3_unit_53 rfl ?_
            refine x_icmp_lt (tgt := 87) dX3_unit_55 rfl (by omega) (by omega) (fun c55 => ?_) (fun c55 => ?_)
            · exfalso; omega
            · refine x_aload_0 dX3_unit_58 ?_
              refine x_callV0 dX3_unit_59 rfl okX3_pass q764 q766 qs13 (by first | first | assumption | (simp only [kd_pf, kd_al, nx_pf, nx_al, true_and, and_true]; (repeat (first | rw [if_neg (by omega)] | rw [if_pos (by omega)] | rw [if_pos trivial])); first | done | assumption | rfl) | (exact MkL.k_parser (by assumption))) am_k3 rfl (C_X3_pass hR hat ha (fun z => (x_k0 ?_)) (fun z => by exfalso; omega))
              refine x_new dX3_unit_62 am_k18 q1145 q1146 q149 rfl (fun z62 => ?_)
              refine x_dup dX3_unit_65 rfl ?_
              refine x_aload_0 dX3_unit_66 ?_
              refine x_getR dX3_unit_67 fl296_3 rfl (by first | (exact MkL.k_parser (by assumption)) | (first | assumption | (simp only [kd_pf, kd_al, nx_pf, nx_al, true_and, and_true]; (repeat (first | rw [if_neg (by omega)] | rw [if_pos (by omega)] | rw [if_pos trivial])); first | done | assumption | rfl))) (by first | (exact MkL.v_t (by assumption)) | (assumption)) ?_
              refine x_getR dX3_unit_70 fl270_2 rfl (by first | (exact MkL.k_tokens (by assumption)) | (first | assumption | (simp only [kd_pf, kd_al, nx_pf, nx_al, true_and, and_true]; (repeat (first | rw [if_neg (by omega)] | rw [if_pos (by omega)] | rw [if_pos trivial])); first | done | assumption | rfl))) (by first | (exact MkL.v_what (by assumption)) | (assumption)) ?_
              refine x_aload_0 dX3_unit_73 ?_
              refine x_getI_ dX3_unit_74 fl299_3 (by first | (exact MkL.k_parser (by assumption)) | (first | assumption | (simp only [kd_pf, kd_al, nx_pf, nx_al, true_and, and_true]; (repeat (first | rw [if_neg (by omega)] | rw [if_pos (by omega)] | rw [if_pos trivial])); first | done | assumption | rfl))) (fun r74 => ?_)
              rw [am_st_s] at r74 ⊢
              refine x_iconst dX3_unit_77 ?_
              refine x_isub dX3_unit_78 ?_
              rw [show a + 1 - 1 = a by omega]
              refine x_sald_ dX3_unit_79 (by first | (exact MkL.k_what (by assumption)) | (first | assumption | (simp only [kd_pf, kd_al, nx_pf, nx_al, true_and, and_true]; (repeat (first | rw [if_neg (by omega)] | rw [if_pos (by omega)] | rw [if_pos trivial])); first | done | assumption | rfl))) (by first | (exact MkL.x_what (by assumption) (by omega) (by omega)) | (omega)) (fun r79 => ?_)
              rw [h81] at r79 ⊢
              refine x_bipush dX3_unit_80 rfl ?_
              refine x_isub dX3_unit_82 ?_
              refine x_callI1 dX3_unit_83 rfl okX18_init rfl rfl q1147 q1148 (by first | omega | (rw [kd_al, if_pos rfl]; decide)) rfl (C_X18_init (by rw [kd_al, if_pos rfl]) (by omega) ⟨by omega, by omega⟩ (x_k0 ?_))
              refine x_aret dX3_unit_86 rfl ?_
              refine kS _ _ _ _ _ hpE (by omega) (hR.nx ha (by omega) (by omega) (by omega)) ((XG.new (by decide) (Int.le_refl _)).st9.le (by omega)) ?_ am_st_s (fun j z => am_st_i z)
              rw [show (a + 1 - a).toNat = 1 by omega]
              exact ⟨Int.le_refl _, Or.inr (Or.inl ⟨by rw [kd_pf, kd_al, if_pos rfl], by rw [fF_pf, if_pos ⟨rfl, rfl⟩]; omega, by rw [fF_pf, if_pos ⟨rfl, rfl⟩, show sK b D a - 20 - 11 = sK b D a - 31 by omega]⟩)⟩
        · exfalso; omega
      · have hk40 : kdS 40 = 6 := by decide
        have hk41 : kdS 41 = 7 := by decide
        by_cases q6 : sK b D a = 6
        · by_cases qo : o = 6
          · have hpE : pE (sK b D) (sV b D) (f + 1) 0 o a t0 = .inr (2, a) := by
              rw [pE, if_neg q2, if_neg (by omega), if_neg (by omega), if_pos qo]
            refine x_start okX3_unit rfl rfl rfl rfl ?_
            refine x_aload_0 dX3_unit_0 ?_
            refine x_callV0 dX3_unit_1 rfl okX3_sort q744 q746 qs9 (by first | first | assumption | (simp only [kd_pf, kd_al, nx_pf, nx_al, true_and, and_true]; (repeat (first | rw [if_neg (by omega)] | rw [if_pos (by omega)] | rw [if_pos trivial])); first | done | assumption | rfl) | (exact MkL.k_parser (by assumption))) am_k3 rfl (C_X3_sort hR hat ha (fun q3 => (x_k1 ?_)) (fun z => by exfalso; omega))
            refine x_iconst dX3_unit_4 ?_
            refine x_icmp_ne (tgt := 33) dX3_unit_5 rfl (by omega) (by omega) (fun c5 => ?_) (fun c5 => ?_)
            · refine x_aload_0 dX3_unit_33 ?_
              refine x_callV0 dX3_unit_34 rfl okX3_sort q744 q746 qs9 (by first | first | assumption | (simp only [kd_pf, kd_al, nx_pf, nx_al, true_and, and_true]; (repeat (first | rw [if_neg (by omega)] | rw [if_pos (by omega)] | rw [if_pos trivial])); first | done | assumption | rfl) | (exact MkL.k_parser (by assumption))) am_k3 rfl (C_X3_sort hR hat ha (fun q3 => (x_k1 ?_)) (fun z => by exfalso; omega))
              refine x_iconst dX3_unit_37 ?_
              refine x_icmp_ne (tgt := 87) dX3_unit_38 rfl (by omega) (by omega) (fun c38 => ?_) (fun c38 => ?_)
              · refine x_aload_0 dX3_unit_87 ?_
                refine x_bipush dX3_unit_88 rfl ?_
                refine x_callV1 dX3_unit_90 rfl okX3_isSign q1112 q1114 qs25 (by first | first | assumption | (simp only [kd_pf, kd_al, nx_pf, nx_al, true_and, and_true]; (repeat (first | rw [if_neg (by omega)] | rw [if_pos (by omega)] | rw [if_pos trivial])); first | done | assumption | rfl) | (exact MkL.k_parser (by assumption))) am_k3 rfl (C_X3_isSign hR hat ha (by decide) (by decide) (x_k1 ?_))
                rw [hk40, if_pos q6]
                refine x_if_ne (tgt := 102) dX3_unit_93 rfl (by omega) (fun c93 => ?_) (fun c93 => ?_)
                · refine x_aload_0 dX3_unit_102 ?_
                  refine x_getI_ dX3_unit_103 fl300_3 (by first | (exact MkL.k_parser (by assumption)) | (first | assumption | (simp only [kd_pf, kd_al, nx_pf, nx_al, true_and, and_true]; (repeat (first | rw [if_neg (by omega)] | rw [if_pos (by omega)] | rw [if_pos trivial])); first | done | assumption | rfl))) (fun r103 => ?_)
                  rw [hop] at r103 ⊢
                  refine x_bipush dX3_unit_106 rfl ?_
                  refine x_icmp_ne (tgt := 117) dX3_unit_108 rfl (by omega) (by omega) (fun c108 => ?_) (fun c108 => ?_)
                  · exfalso; omega
                  · refine x_aload_0 dX3_unit_111 ?_
                    refine x_iconst dX3_unit_112 ?_
                    refine x_callV1 dX3_unit_113 rfl okX3_wrong q748 q750 qs10 (by first | first | assumption | (simp only [kd_pf, kd_al, nx_pf, nx_al, true_and, and_true]; (repeat (first | rw [if_neg (by omega)] | rw [if_pos (by omega)] | rw [if_pos trivial])); first | done | assumption | rfl) | (exact MkL.k_parser (by assumption))) am_k3 rfl (C_X3_wrong hR hat ha.1 (by decide) (x_k1 ?_))
                    refine x_athrow dX3_unit_116 rfl (by exact hK.k_fault) ?_
                    exact kF _ _ _ _ hpE (g0 _ _) ha.1 fltH_6 fltH_7
                · exact absurd c93 (by decide)
              · exfalso; omega
            · exfalso; omega
          · have hS2 := hS (by omega)
            have hR2 : RdX L (am_st (am_st h (x + 9) 4 (o + 1)) (x + 9) 3 (a + 1)) x b D N := hR.st9.st9
            have hR1 : RdX L (am_st h (x + 9) 4 (o + 1)) x b D N := hR.st9
            have hg2 : XG L h L (am_st (am_st h (x + 9) 4 (o + 1)) (x + 9) 3 (a + 1)) x 0 := (XG.rf L h x).st9.st9
            have han := hR.nx ha (by omega) (by omega) (by omega)
            have hpE : pE (sK b D) (sV b D) (f + 1) 0 o a t0 = match pE (sK b D) (sV b D) f 3 (o + 1) (a + 1) t0 with
                | .inr e => .inr e
                | .inl q => if sK b D q.2 ≠ 7 then .inr (1, q.2) else if 400 ≤ q.2 then .inr (2, q.2) else .inl (q.1, q.2 + 1) := by
              rw [pE, if_neg q2, if_neg (by omega), if_neg (by omega), if_neg qo, if_neg q4]
              cases pE (sK b D) (sV b D) f 3 (o + 1) (a + 1) t0 <;> rfl
            refine x_start okX3_unit rfl rfl rfl rfl ?_
            refine x_aload_0 dX3_unit_0 ?_
            refine x_callV0 dX3_unit_1 rfl okX3_sort q744 q746 qs9 (by first | first | assumption | (simp only [kd_pf, kd_al, nx_pf, nx_al, true_and, and_true]; (repeat (first | rw [if_neg (by omega)] | rw [if_pos (by omega)] | rw [if_pos trivial])); first | done | assumption | rfl) | (exact MkL.k_parser (by assumption))) am_k3 rfl (C_X3_sort hR hat ha (fun q3 => (x_k1 ?_)) (fun z => by exfalso; omega))
            refine x_iconst dX3_unit_4 ?_
            refine x_icmp_ne (tgt := 33) dX3_unit_5 rfl (by omega) (by omega) (fun c5 => ?_) (fun c5 => ?_)
            · refine x_aload_0 dX3_unit_33 ?_
              refine x_callV0 dX3_unit_34 rfl okX3_sort q744 q746 qs9 (by first | first | assumption | (simp only [kd_pf, kd_al, nx_pf, nx_al, true_and, and_true]; (repeat (first | rw [if_neg (by omega)] | rw [if_pos (by omega)] | rw [if_pos trivial])); first | done | assumption | rfl) | (exact MkL.k_parser (by assumption))) am_k3 rfl (C_X3_sort hR hat ha (fun q3 => (x_k1 ?_)) (fun z => by exfalso; omega))
              refine x_iconst dX3_unit_37 ?_
              refine x_icmp_ne (tgt := 87) dX3_unit_38 rfl (by omega) (by omega) (fun c38 => ?_) (fun c38 => ?_)
              · refine x_aload_0 dX3_unit_87 ?_
                refine x_bipush dX3_unit_88 rfl ?_
                refine x_callV1 dX3_unit_90 rfl okX3_isSign q1112 q1114 qs25 (by first | first | assumption | (simp only [kd_pf, kd_al, nx_pf, nx_al, true_and, and_true]; (repeat (first | rw [if_neg (by omega)] | rw [if_pos (by omega)] | rw [if_pos trivial])); first | done | assumption | rfl) | (exact MkL.k_parser (by assumption))) am_k3 rfl (C_X3_isSign hR hat ha (by decide) (by decide) (x_k1 ?_))
                rw [hk40, if_pos q6]
                refine x_if_ne (tgt := 102) dX3_unit_93 rfl (by omega) (fun c93 => ?_) (fun c93 => ?_)
                · refine x_aload_0 dX3_unit_102 ?_
                  refine x_getI_ dX3_unit_103 fl300_3 (by first | (exact MkL.k_parser (by assumption)) | (first | assumption | (simp only [kd_pf, kd_al, nx_pf, nx_al, true_and, and_true]; (repeat (first | rw [if_neg (by omega)] | rw [if_pos (by omega)] | rw [if_pos trivial])); first | done | assumption | rfl))) (fun r103 => ?_)
                  rw [hop] at r103 ⊢
                  refine x_bipush dX3_unit_106 rfl ?_
                  refine x_icmp_ne (tgt := 117) dX3_unit_108 rfl (by omega) (by omega) (fun c108 => ?_) (fun c108 => ?_)
                  · refine x_aload_0 dX3_unit_117 ?_
                    refine x_dup dX3_unit_118 rfl ?_
                    refine x_getI_ dX3_unit_119 fl300_3 (by first | (exact MkL.k_parser (by assumption)) | (first | assumption | (simp only [kd_pf, kd_al, nx_pf, nx_al, true_and, and_true]; (repeat (first | rw [if_neg (by omega)] | rw [if_pos (by omega)] | rw [if_pos trivial])); first | done | assumption | rfl))) (fun r119 => ?_)
                    rw [hop] at r119 ⊢
                    refine x_iconst dX3_unit_122 ?_
                    refine x_iadd dX3_unit_123 ?_
                    refine x_putI_ dX3_unit_124 fl300_3 (by first | (exact MkL.k_parser (by assumption)) | (first | assumption | (simp only [kd_pf, kd_al, nx_pf, nx_al, true_and, and_true]; (repeat (first | rw [if_neg (by omega)] | rw [if_pos (by omega)] | rw [if_pos trivial])); first | done | assumption | rfl))) (by omega) ?_
                    refine x_aload_0 dX3_unit_127 ?_
                    refine x_callV0 dX3_unit_128 rfl okX3_pass q764 q766 qs13 (by first | first | assumption | (simp only [kd_pf, kd_al, nx_pf, nx_al, true_and, and_true]; (repeat (first | rw [if_neg (by omega)] | rw [if_pos (by omega)] | rw [if_pos trivial])); first | done | assumption | rfl) | (exact MkL.k_parser (by assumption))) am_k3 rfl (C_X3_pass hR1 (by rw [am_st_i (by decide)]; exact hat) ha (fun z => (x_k0 ?_)) (fun z => by exfalso; omega))
                    refine x_aload_0 dX3_unit_131 ?_
                    refine x_callV0 dX3_unit_132 rfl okX3_sum q1120 q1122 qs27 (by first | first | assumption | (simp only [kd_pf, kd_al, nx_pf, nx_al, true_and, and_true]; (repeat (first | rw [if_neg (by omega)] | rw [if_pos (by omega)] | rw [if_pos trivial])); first | done | assumption | rfl) | (exact MkL.k_parser (by assumption))) am_k3 rfl (hS2 L _ _ (a + 1) t0 hR2 am_st_s (by rw [am_st_i (by decide), am_st_s]) han (by unfold rkE at hrk ⊢; simp only [if_true, if_false] at hrk ⊢; omega) (fun ta a2 L3 h3 r3 z1 z2 z3 z4 z5 z6 z7 => (x_k1 ?_)) (fun n tk L3 h3 z1 z2 z3 z4 z5 => x_kx ⟨(hR2.up z2).mk.k_fault, kF n tk L3 h3 (by rw [hpE, z1]) ((hg2.tr z2 (Int.le_refl _)).le (by omega)) z3 z4 z5⟩))
                    refine x_astore_1 dX3_unit_135 rfl ?_
                    have hR3 := hR2.up z4
                    have hK3 := hR3.mk
                    have hg3 := hg2.tr z4 (Int.le_refl _)
                    rw [z1] at hpE
                    have hop3 : h3 (x + 9) 4 = o + 1 := by rw [z7 4 (by decide), am_st_i (by decide), am_st_s]
                    refine x_aload_0 dX3_unit_136 ?_
                    refine x_bipush dX3_unit_137 rfl ?_
                    refine x_callV1 dX3_unit_139 rfl okX3_sign q1108 q1110 qs24 (by first | first | assumption | (simp only [kd_pf, kd_al, nx_pf, nx_al, true_and, and_true]; (repeat (first | rw [if_neg (by omega)] | rw [if_pos (by omega)] | rw [if_pos trivial])); first | done | assumption | rfl) | (exact MkL.k_parser (by assumption))) am_k3 rfl (C_X3_sign hR3 z6 z3 (by decide) (by decide) (fun y1 y2 => (x_k0 ?_)) (fun y1 => x_kx ⟨hK3.k_fault, kF _ _ _ _ (by rw [hpE]; exact if_pos (by rw [hk41] at y1; exact y1)) (hg3.flt.le (by have := z3.2; omega)) z3.1 fltH_6 fltH_7⟩) (fun y1 y2 => x_kx ⟨hK3.k_fault, kF _ _ _ _ (by rw [hpE]; exact (if_neg (fun z => z (by rw [hk41] at y1; exact y1))).trans (if_pos y2)) (hg3.flt.le (by have := z3.2; omega)) z3.1 fltH_6 fltH_7⟩))
                    refine x_aload_0 dX3_unit_142 ?_
                    refine x_dup dX3_unit_143 rfl ?_
                    refine x_getI_ dX3_unit_144 fl300_3 (by first | (exact MkL.k_parser (by assumption)) | (first | assumption | (simp only [kd_pf, kd_al, nx_pf, nx_al, true_and, and_true]; (repeat (first | rw [if_neg (by omega)] | rw [if_pos (by omega)] | rw [if_pos trivial])); first | done | assumption | rfl))) (fun r144 => ?_)
                    rw [am_st_i (by decide), hop3] at r144 ⊢
                    refine x_iconst dX3_unit_147 ?_
                    refine x_isub dX3_unit_148 ?_
                    refine x_putI_ dX3_unit_149 fl300_3 (by first | (exact MkL.k_parser (by assumption)) | (first | assumption | (simp only [kd_pf, kd_al, nx_pf, nx_al, true_and, and_true]; (repeat (first | rw [if_neg (by omega)] | rw [if_pos (by omega)] | rw [if_pos trivial])); first | done | assumption | rfl))) (by omega) ?_
                    refine x_aload_1 dX3_unit_152 ?_
                    refine x_aret dX3_unit_153 rfl ?_
                    have hk2 : sK b D a2 = 7 := by rw [hk41] at y1; exact y1
                    refine kS ta (a2 + 1) _ _ _ (by rw [hpE]; exact (if_neg (fun z => z hk2)).trans (if_neg (by show ¬ 400 ≤ a2; omega))) (by omega) (hR3.nx z3 (by omega) (by omega) (by omega)) (hg3.st9.st9.le (by omega)) (SumF.le (by omega) z5) (by rw [am_st_i (by decide), am_st_s]) (fun j zj => ?_)
                    by_cases j4 : j = 4
                    · subst j4
                      rw [am_st_s, hop]
                      omega
                    · rw [am_st_i j4, am_st_i zj, z7 j zj, am_st_i zj, am_st_i j4]
                  · exfalso; omega
                · exact absurd c93 (by decide)
              · exfalso; omega
            · exfalso; omega
        · have hpE : pE (sK b D) (sV b D) (f + 1) 0 o a t0 = .inr (1, a) := by
            rw [pE, if_neg q2, if_neg (by omega), if_pos q6]
          refine x_start okX3_unit rfl rfl rfl rfl ?_
          refine x_aload_0 dX3_unit_0 ?_
          refine x_callV0 dX3_unit_1 rfl okX3_sort q744 q746 qs9 (by first | first | assumption | (simp only [kd_pf, kd_al, nx_pf, nx_al, true_and, and_true]; (repeat (first | rw [if_neg (by omega)] | rw [if_pos (by omega)] | rw [if_pos trivial])); first | done | assumption | rfl) | (exact MkL.k_parser (by assumption))) am_k3 rfl (C_X3_sort hR hat ha (fun q3 => (x_k1 ?_)) (fun z => x_kx ⟨hK.k_fault, kF _ _ _ _ hpE (g0 _ _) ha.1 fltH_6 fltH_7⟩))
          refine x_iconst dX3_unit_4 ?_
          refine x_icmp_ne (tgt := 33) dX3_unit_5 rfl (by omega) (by omega) (fun c5 => ?_) (fun c5 => ?_)
          · refine x_aload_0 dX3_unit_33 ?_
            refine x_callV0 dX3_unit_34 rfl okX3_sort q744 q746 qs9 (by first | first | assumption | (simp only [kd_pf, kd_al, nx_pf, nx_al, true_and, and_true]; (repeat (first | rw [if_neg (by omega)] | rw [if_pos (by omega)] | rw [if_pos trivial])); first | done | assumption | rfl) | (exact MkL.k_parser (by assumption))) am_k3 rfl (C_X3_sort hR hat ha (fun q3 => (x_k1 ?_)) (fun z => by exfalso; omega))
            refine x_iconst dX3_unit_37 ?_
            refine x_icmp_ne (tgt := 87) dX3_unit_38 rfl (by omega) (by omega) (fun c38 => ?_) (fun c38 => ?_)
            · refine x_aload_0 dX3_unit_87 ?_
              refine x_bipush dX3_unit_88 rfl ?_
              refine x_callV1 dX3_unit_90 rfl okX3_isSign q1112 q1114 qs25 (by first | first | assumption | (simp only [kd_pf, kd_al, nx_pf, nx_al, true_and, and_true]; (repeat (first | rw [if_neg (by omega)] | rw [if_pos (by omega)] | rw [if_pos trivial])); first | done | assumption | rfl) | (exact MkL.k_parser (by assumption))) am_k3 rfl (C_X3_isSign hR hat ha (by decide) (by decide) (x_k1 ?_))
              rw [hk40, if_neg q6]
              refine x_if_ne (tgt := 102) dX3_unit_93 rfl (by omega) (fun c93 => ?_) (fun c93 => ?_)
              · exact absurd rfl c93
              · refine x_aload_0 dX3_unit_96 ?_
                refine x_iconst dX3_unit_97 ?_
                refine x_callV1 dX3_unit_98 rfl okX3_wrong q748 q750 qs10 (by first | first | assumption | (simp only [kd_pf, kd_al, nx_pf, nx_al, true_and, and_true]; (repeat (first | rw [if_neg (by omega)] | rw [if_pos (by omega)] | rw [if_pos trivial])); first | done | assumption | rfl) | (exact MkL.k_parser (by assumption))) am_k3 rfl (C_X3_wrong hR hat ha.1 (by decide) (x_k1 ?_))
                refine x_athrow dX3_unit_101 rfl (by exact hK.k_fault) ?_
                exact kF _ _ _ _ hpE (g0 _ _) ha.1 fltH_6 fltH_7
            · refine x_aload_0 dX3_unit_41 ?_
              refine x_getR dX3_unit_42 fl296_3 rfl (by first | (exact MkL.k_parser (by assumption)) | (first | assumption | (simp only [kd_pf, kd_al, nx_pf, nx_al, true_and, and_true]; (repeat (first | rw [if_neg (by omega)] | rw [if_pos (by omega)] | rw [if_pos trivial])); first | done | assumption | rfl))) (by first | (exact MkL.v_t (by assumption)) | (assumption)) ?_
              refine x_getR dX3_unit_45 fl270_2 rfl (by first | (exact MkL.k_tokens (by assumption)) | (first | assumption | (simp only [kd_pf, kd_al, nx_pf, nx_al, true_and, and_true]; (repeat (first | rw [if_neg (by omega)] | rw [if_pos (by omega)] | rw [if_pos trivial])); first | done | assumption | rfl))) (by first | (exact MkL.v_what (by assumption)) | (assumption)) ?_
              refine x_aload_0 dX3_unit_48 ?_
              refine x_getI_ dX3_unit_49 fl299_3 (by first | (exact MkL.k_parser (by assumption)) | (first | assumption | (simp only [kd_pf, kd_al, nx_pf, nx_al, true_and, and_true]; (repeat (first | rw [if_neg (by omega)] | rw [if_pos (by omega)] | rw [if_pos trivial])); first | done | assumption | rfl))) (fun r49 => ?_)
              rw [hat] at r49 ⊢
              refine x_sald_ dX3_unit_52 (by first | (exact MkL.k_what (by assumption)) | (first | assumption | (simp only [kd_pf, kd_al, nx_pf, nx_al, true_and, and_true]; (repeat (first | rw [if_neg (by omega)] | rw [if_pos (by omega)] | rw [if_pos trivial])); first | done | assumption | rfl))) (by first | (exact MkL.x_what (by assumption) (by omega) (by omega)) | (omega)) (fun r52 => ?_)
              rw [htk.2.2.2 (by omega), if_neg (by omega)] at r52 ⊢
              refine x_bipush dX3_unit_53 rfl ?_
              refine x_icmp_lt (tgt := 87) dX3_unit_55 rfl (by omega) (by omega) (fun c55 => ?_) (fun c55 => ?_)
              · refine x_aload_0 dX3_unit_87 ?_
                refine x_bipush dX3_unit_88 rfl ?_
                refine x_callV1 dX3_unit_90 rfl okX3_isSign q1112 q1114 qs25 (by first | first | assumption | (simp only [kd_pf, kd_al, nx_pf, nx_al, true_and, and_true]; (repeat (first | rw [if_neg (by omega)] | rw [if_pos (by omega)] | rw [if_pos trivial])); first | done | assumption | rfl) | (exact MkL.k_parser (by assumption))) am_k3 rfl (C_X3_isSign hR hat ha (by decide) (by decide) (x_k1 ?_))
                rw [hk40, if_neg q6]
                refine x_if_ne (tgt := 102) dX3_unit_93 rfl (by omega) (fun c93 => ?_) (fun c93 => ?_)
                · exact absurd rfl c93
                · refine x_aload_0 dX3_unit_96 ?_
                  refine x_iconst dX3_unit_97 ?_
                  refine x_callV1 dX3_unit_98 rfl okX3_wrong q748 q750 qs10 (by first | first | assumption | (simp only [kd_pf, kd_al, nx_pf, nx_al, true_and, and_true]; (repeat (first | rw [if_neg (by omega)] | rw [if_pos (by omega)] | rw [if_pos trivial])); first | done | assumption | rfl) | (exact MkL.k_parser (by assumption))) am_k3 rfl (C_X3_wrong hR hat ha.1 (by decide) (x_k1 ?_))
                  refine x_athrow dX3_unit_101 rfl (by exact hK.k_fault) ?_
                  exact kF _ _ _ _ hpE (g0 _ _) ha.1 fltH_6 fltH_7
              · exfalso; omega
          · exfalso; omega
end XSUM
