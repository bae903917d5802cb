/-! THREADTOWN READS: errands -/
set_option maxRecDepth 100000
section TERR
variable {G : am_G} {L L' : am_L} {h h' h2 : am_H} {x t a c k w D N : Int} {b : Int → Int} {d : Nat} {Q : am_O → am_L → am_H → Prop} {u u' : PS}
def pErr (K V I : Int → Int) (a : Int) (u : PS) : (Int × PS) ⊕ (Int × Int) := rb (pKnown K I a u) fun q => rb (pNum K V 0 11 q.2.1 q.2.2) fun r => rb (pNum K V 0 11 r.2.1 r.2.2) fun s => .inl (s.2.1, if q.1 < 0 then s.2.2 else uT' (uCor' s.2.2 r.1 s.1 q.2.1) (tErr' (uT s.2.2) q.1 r.1 s.1))
theorem srt0 {k : Int} : srt k = 0 ↔ k = 1 := by
  unfold srt
  constructor
  · intro z
    repeat' split at z
    all_goals omega
  · intro z
    subst z
    rfl
theorem err80 {a0 k0 : Int} (hR : RdX L h x b D N) (ha : inN N a) (hP : PsX h x t a u) (hT : TxP L h t u) (hxt : x + 1205 ≤ t ∧ t < nx L) (hI : PsI u) (h6 : sK b D a = 1 → 0 ≤ fdM u (sJ b D a) → tE (uT u) (fdM u (sJ b D a)) ≠ 6)
    (kS : ∀ a' u' L' h', pErr (sK b D) (sV b D) (sJ b D) a u = .inl (a', u') → a < a' → inN N a' → XT L h L' h' x t (a' - a) → TxP L' h' t u' → PsX h' x t a' u' → Q (.inl []) L' h')
    (kF : ∀ n tk L' h', pErr (sK b D) (sV b D) (sJ b D) a u = .inr (n, tk) → XT L h L' h' x t (401 - a) → (0 ≤ tk ∧ tk ≤ N) → FX1 h' x b D n tk → Q (.inr (x + 1)) L' h') :
    am_X G mX3_errand (d + 20) 80 [aR (x + 9), aI a0, aI k0, aU, aU, aU, aU, aU] [] L h Q := by
  have hK := hR.mk
  have ha0 := ha.1
  have ha4 := ha.2
  have hx := hR.2.1
  have hI0 := hI.1
  have hND : N ≤ 2000 := by have := hR.2.2.2.2.2.1; have := hR.2.2.1; omega
  have hp : pErr (sK b D) (sV b D) (sJ b D) a u = rb (pKnown (sK b D) (sJ b D) a u) fun q => rb (pNum (sK b D) (sV b D) 0 11 q.2.1 q.2.2) fun r => rb (pNum (sK b D) (sV b D) 0 11 r.2.1 r.2.2) fun s => .inl (s.2.1, if q.1 < 0 then s.2.2 else uT' (uCor' s.2.2 r.1 s.1 q.2.1) (tErr' (uT s.2.2) q.1 r.1 s.1)) := rfl
  refine x_aload_0 dX3_errand_80 ?_
  refine x_callV0 dX3_errand_81 rfl okX3_known q1074 q1076 qs22 (by first | first | assumption | exact TxP.kt (by assumption) | (simp only [kd_pf, kd_al, nx_pf, nx_al, true_and, and_true]; (repeat (first | rw [if_neg (by omega)] | rw [if_pos (by omega)] | rw [if_pos trivial])); first | done | assumption | rfl) | (exact MkL.k_parser (by assumption))) am_k3 rfl (C_X3_known hR ha hP hT hI.1 (fun k1 a1 u1 L2 h2 y1 y2 y3 y4 y5 y6 => (x_k1 ?_)) (fun n tk L2 h2 y1 y2 y3 y4 => x_kx ⟨(hR.up y2).mk.k_fault, kF n tk _ _ (by rw [hp, y1, rb_r]) ((y2.xt (by omega)).le (by omega)) y3 y4⟩))
  rw [y1, rb_l] at hp
  have hn := pKnown_i y1
  have hR2 := hR.up y4
  have hg2 : XT L h L2 h2 x t 1 := y4.xt (by omega)
  have hI2 := hI.ts hn.1
  have hK2 := hR2.mk
  have hfd := fdM_rg (u := u) (id := sJ b D a) hI.1.1
  have ht1 : tM (uT u1) = tM (uT u) := by rw [hn.1.eq]; rfl
  have ha1 := y3.1
  refine x_istore_3 dX3_errand_84 rfl ?_
  refine x_aload_0 dX3_errand_85 ?_
  refine x_getI_ dX3_errand_86 fl299_3 (by first | (exact MkL.k_parser (by assumption)) | (first | assumption | exact TxP.kt (by assumption) | (simp only [kd_pf, kd_al, nx_pf, nx_al, true_and, and_true]; (repeat (first | rw [if_neg (by omega)] | rw [if_pos (by omega)] | rw [if_pos trivial])); first | done | assumption | rfl))) (fun r86 => ?_)
  rw [y6.2.1]
  refine x_istore4 dX3_errand_89 rfl ?_
  refine x_aload_0 dX3_errand_91 ?_
  refine x_iconst dX3_errand_92 ?_
  refine x_bipush dX3_errand_93 rfl ?_
  refine x_callV2 dX3_errand_95 rfl okX3_number q768 q770 qs14 (by first | first | assumption | exact TxP.kt (by assumption) | (simp only [kd_pf, kd_al, nx_pf, nx_al, true_and, and_true]; (repeat (first | rw [if_neg (by omega)] | rw [if_pos (by omega)] | rw [if_pos trivial])); first | done | assumption | rfl) | (exact MkL.k_parser (by assumption))) am_k3 rfl (C_X3_number hR2 y3 y6 (by decide) (by decide) (fun v2 a2 u2 h3 w1 w2 w3 w4 w5 w6 => (x_k1 ?_)) (fun n tk h3 w1 w2 w3 w4 => x_kx ⟨hK2.k_fault, kF n tk _ _ (by rw [hp, w1, rb_r]) ((hg2.hh w2).le (by omega)) w3 w4⟩))
  rw [w1, rb_l] at hp
  have hn2 := pNum_i w1
  have hT3 : TxP L2 h3 t u2 := (y5.h9 hK2 fun y q1 q2 => w5 y q1).ts hn2.1
  have hg3 := hg2.hh fun y q1 q2 => w5 y q1
  have hR3 := hR2.h9 fun y q1 q2 => w5 y q1
  refine x_istore5 dX3_errand_98 rfl ?_
  refine x_aload_0 dX3_errand_100 ?_
  refine x_iconst dX3_errand_101 ?_
  refine x_bipush dX3_errand_102 rfl ?_
  refine x_callV2 dX3_errand_104 rfl okX3_number q768 q770 qs14 (by first | first | assumption | exact TxP.kt (by assumption) | (simp only [kd_pf, kd_al, nx_pf, nx_al, true_and, and_true]; (repeat (first | rw [if_neg (by omega)] | rw [if_pos (by omega)] | rw [if_pos trivial])); first | done | assumption | rfl) | (exact MkL.k_parser (by assumption))) am_k3 rfl (C_X3_number hR3 w3 w6 (by decide) (by decide) (fun v3 a3 u3 h4 v1 v2' v3' v4 v5 v6 => (x_k1 ?_)) (fun n tk h4 v1 v2' v3' v4 => x_kx ⟨hK2.k_fault, kF n tk _ _ (by rw [hp, v1, rb_r]) ((hg3.hh v2').le (by omega)) v3' v4⟩))
  rw [v1, rb_l] at hp
  have hn3 := pNum_i v1
  have hts := (hn.1.tr hn2.1).tr hn3.1
  have hT4 : TxP L2 h4 t u3 := (hT3.h9 hK2 fun y q1 q2 => v5 y q1).ts hn3.1
  have hg4 := hg3.hh fun y q1 q2 => v5 y q1
  have ht4 : tM (uT u3) = tM (uT u) := by rw [hts.eq]; rfl
  have hte : tE (uT u3) = tE (uT u) := by rw [hts.eq]; rfl
  have hI4 := hI.ts hts
  have hI40 := hI4.1
  have hk20 := (hT4.ls hI4.1).1
  refine x_istore6 dX3_errand_107 rfl ?_
  refine x_iload_3 dX3_errand_109 ?_
  refine x_if_ge (tgt := 114) dX3_errand_110 rfl (by omega) (fun c110 => ?_) (fun c110 => ?_)
  · have h60 := h6 hn.2.2.2.2.1 (by omega)
    have hke : k1 = fdM u (sJ b D a) := hn.2.1
    rw [← hke, ← hte] at h60
    have hr6 := hI4.2.2.1 k1 (by omega) (by omega)
    have hce := hI4.ce (k := k1) (by omega) (by omega) (by omega)
    have hcb := hI4.cb
    obtain ⟨m1, m2, m3, m4, ⟨m5, m6⟩, ⟨m7, m8⟩, m9, m10⟩ := hT4.man (k := k1) (by omega) (by omega)
    have h200 := hT4.1
    have hpe := hT4.err (k := k1) (i1 := v2) (i2 := v3) (by omega) (by omega)
    have hkt := hpe.kt
    have nb : manP L2 t k1 ≠ fF L2 (manP L2 t k1) 1 := by intro z; rw [← z] at m5; omega
    have nb2 : manP L2 t k1 ≠ fF L2 (manP L2 t k1) 2 := by intro z; rw [← z] at m7; omega
    rw [if_neg (by omega)] at hp
    have g5 : XT L h (am_pf (am_pf (am_pf L2 (fF L2 (manP L2 t k1) 1) (tE (uT u3) k1) v2) (fF L2 (manP L2 t k1) 2) (tE (uT u3) k1) v3) (manP L2 t k1) 5 (tE (uT u3) k1 + 1)) h4 x t 1 := ((hg4.pf (by omega)).pf (by omega)).pf (by omega)
    have hK5 := (hR.ut g5 hxt.1).mk
    refine x_aload_0 dX3_errand_114 ?_
    refine x_getW dX3_errand_115 fl298_3 rfl (by first | (exact MkL.k_parser (by assumption)) | (first | assumption | exact TxP.kt (by assumption) | (simp only [kd_pf, kd_al, nx_pf, nx_al, true_and, and_true]; (repeat (first | rw [if_neg (by omega)] | rw [if_pos (by omega)] | rw [if_pos trivial])); first | done | assumption | rfl))) (by exact v6.1) ?_
    refine x_getR dX3_errand_118 fl353_4 rfl (by first | (exact TxL.k0 (by assumption)) | (first | assumption | exact TxP.kt (by assumption) | (simp only [kd_pf, kd_al, nx_pf, nx_al, true_and, and_true]; (repeat (first | rw [if_neg (by omega)] | rw [if_pos (by omega)] | rw [if_pos trivial])); first | done | assumption | rfl))) (by exact hT4.f0) ?_
    refine x_iload_3 dX3_errand_121 ?_
    refine x_callV1 dX3_errand_122 rfl okJ5_get q1175 q530 q531 (by first | first | assumption | exact TxP.kt (by assumption) | (simp only [kd_pf, kd_al, nx_pf, nx_al, true_and, and_true]; (repeat (first | rw [if_neg (by omega)] | rw [if_pos (by omega)] | rw [if_pos trivial])); first | done | assumption | rfl) | (exact TxL.kl (by assumption))) am_k20 rfl (C_J5_get (hT4.ls hI4.1) ⟨by omega, by omega⟩ (x_k1 ?_))
    show am_X G mX3_errand (d + 20) 125 _ (aR (manP L2 t k1) :: _) L2 h4 Q
    refine x_cast dX3_errand_125 q789 (by exact m1) am_k14 ?_
    refine x_astore7 dX3_errand_128 rfl ?_
    refine x_aload7 dX3_errand_130 ?_
    refine x_getR dX3_errand_132 fl983_14 rfl (by exact m1) (by exact rfl) ?_
    refine x_aload7 dX3_errand_135 ?_
    refine x_getKI dX3_errand_137 fl994_14 (by exact m1) (by exact m4) (fun r137 => ?_)
    refine x_iload5 dX3_errand_140 ?_
    refine x_iastK dX3_errand_142 (by exact m5) (by omega) (by omega) (by omega) ?_
    refine x_aload7 dX3_errand_143 ?_
    refine x_getR dX3_errand_145 fl986_14 rfl (by exact m1) (by exact pf_ne nb) ?_
    refine x_aload7 dX3_errand_148 ?_
    refine x_getKI dX3_errand_150 fl994_14 (by exact m1) (by exact (pf_ne nb).trans m4) (fun r150 => ?_)
    refine x_iload6 dX3_errand_153 ?_
    refine x_iastK dX3_errand_155 (by exact m7) (by omega) (by rw [ln_pf]; omega) (by omega) ?_
    refine x_aload7 dX3_errand_156 ?_
    refine x_dup dX3_errand_158 rfl ?_
    refine x_getKI dX3_errand_159 fl994_14 (by exact m1) (by exact ((pf_ne nb2).trans (pf_ne nb)).trans m4) (fun r159 => ?_)
    refine x_iconst dX3_errand_162 ?_
    refine x_iadd dX3_errand_163 ?_
    refine x_putFI dX3_errand_164 fl994_14 (by exact m1) (by omega) (by omega) ?_
    obtain ⟨r0, l, A, E, r1, r2⟩ := id hpe
    have h9 : uC (uT' u3 (tErr' (uT u3) k1 v2 v3)) = uC u3 := rfl
    refine x_aload_0 dX3_errand_167 ?_
    refine x_getW dX3_errand_168 fl298_3 rfl (by first | (exact MkL.k_parser (by assumption)) | (first | assumption | exact TxP.kt (by assumption) | (simp only [kd_pf, kd_al, nx_pf, nx_al, true_and, and_true]; (repeat (first | rw [if_neg (by omega)] | rw [if_pos (by omega)] | rw [if_pos trivial])); first | done | assumption | rfl))) (by exact v6.1) ?_
    refine x_iload5 dX3_errand_171 ?_
    refine x_iload6 dX3_errand_173 ?_
    refine x_iload4 dX3_errand_175 ?_
    refine x_callV3 dX3_errand_177 rfl okX4_notes q1017 q1018 q1019 (by first | first | assumption | exact TxP.kt (by assumption) | (simp only [kd_pf, kd_al, nx_pf, nx_al, true_and, and_true]; (repeat (first | rw [if_neg (by omega)] | rw [if_pos (by omega)] | rw [if_pos trivial])); first | done | assumption | rfl) | (exact TxL.k0 (by assumption))) am_k4 rfl (C_X4_notes (u := uT' u3 (tErr' (uT u3) k1 v2 v3)) r1 r0 (by omega) (by omega) (by omega) (by omega) (x_k0 ?_))
    refine x_ret dX3_errand_180 rfl ?_
    exact kS a3 _ _ _ hp (by omega) v3' (((((g5.pf (by omega)).pf (by omega)).pf (by omega)).pf (Int.le_refl _)).le (by omega)) hpe.note v6
  · refine x_ret dX3_errand_113 rfl ?_
    rw [if_pos (by omega)] at hp
    exact kS a3 _ _ _ hp (by omega) v3' (hg4.le (by omega)) hT4 v6
theorem told_errand (hR : RdX L h x b D N) (ha : inN N a) (hP : PsX h x t a u) (hT : TxP L h t u) (hxt : x + 1205 ≤ t ∧ t < nx L) (hI : PsI u) (hk : sK b D a = 24) (hQ : ToK L h x t a b D N u Q) : am_C G mX3_errand (d + 20) [aR (x + 9)] L h Q := by
  obtain ⟨kS, kF⟩ := hQ
  have hK := hR.mk
  have ha0 := ha.1
  have ha4 := ha.2
  have hx := hR.2.1
  have hI0 := hI.1
  have hND : N ≤ 2000 := by have := hR.2.2.2.2.2.1; have := hR.2.2.1; omega
  have hp : pTold (sK b D) (sV b D) (sJ b D) a u = rb (pP a) fun a1 => if (sK b D a1 = 1 ∧ 0 ≤ fdM u (sJ b D a1)) ∧ tE (uT u) (fdM u (sJ b D a1)) = 6 then .inr (2, a) else pErr (sK b D) (sV b D) (sJ b D) a1 u := by
    unfold pTold
    simp only [hk]
    rfl
  refine x_start okX3_errand rfl rfl rfl rfl ?_
  refine x_aload_0 dX3_errand_0 ?_
  refine x_getI_ dX3_errand_1 fl299_3 (by first | (exact MkL.k_parser (by assumption)) | (first | assumption | exact TxP.kt (by assumption) | (simp only [kd_pf, kd_al, nx_pf, nx_al, true_and, and_true]; (repeat (first | rw [if_neg (by omega)] | rw [if_pos (by omega)] | rw [if_pos trivial])); first | done | assumption | rfl))) (fun r1 => ?_)
  rw [hP.2.1]
  refine x_istore_1 dX3_errand_4 rfl ?_
  refine x_aload_0 dX3_errand_5 ?_
  refine x_callV0 dX3_errand_6 rfl okX3_pass q764 q766 qs13 (by first | first | assumption | exact TxP.kt (by assumption) | (simp only [kd_pf, kd_al, nx_pf, nx_al, true_and, and_true]; (repeat (first | rw [if_neg (by omega)] | rw [if_pos (by omega)] | rw [if_pos trivial])); first | done | assumption | rfl) | (exact MkL.k_parser (by assumption))) am_k3 rfl (C_X3_pass hR hP.2.1 ha (fun z1 => (x_k0 ?_)) (fun z1 => x_kx ⟨hK.k_fault, kF 2 a _ _ (by rw [hp, pP_2 z1, rb_r]) (((XT.rf L h x t).hh fun y q1 q2 => fltH_o q2).le (by omega)) ha0 ⟨fltH_6, fltH_7⟩⟩))
  rw [pP_ok z1, rb_l] at hp
  have hR1 : RdX L (am_st h (x + 9) 3 (a + 1)) x b D N := hR.st9
  have hP1 : PsX (am_st h (x + 9) 3 (a + 1)) x t (a + 1) u := hP.st
  have hi1 := hR.nx ha (by omega) (by omega) z1
  have hT1 : TxP L (am_st h (x + 9) 3 (a + 1)) t u := hT.h9 hK fun y q1 q2 => am_st_o q1
  have hg1 : XT L h L (am_st h (x + 9) 3 (a + 1)) x t 0 := (XT.rf L h x t).hh fun y q1 q2 => am_st_o q1
  have htk := (hR1.tk hi1.1).1
  have hi10 := hi1.1
  refine x_aload_0 dX3_errand_9 ?_
  refine x_getR dX3_errand_10 fl296_3 rfl (by first | (exact MkL.k_parser (by assumption)) | (first | assumption | exact TxP.kt (by assumption) | (simp only [kd_pf, kd_al, nx_pf, nx_al, true_and, and_true]; (repeat (first | rw [if_neg (by omega)] | rw [if_pos (by omega)] | rw [if_pos trivial])); first | done | assumption | rfl))) (by first | (exact MkL.v_t (by assumption)) | (assumption)) ?_
  refine x_getR dX3_errand_13 fl265_2 rfl (by first | (exact MkL.k_tokens (by assumption)) | (first | assumption | exact TxP.kt (by assumption) | (simp only [kd_pf, kd_al, nx_pf, nx_al, true_and, and_true]; (repeat (first | rw [if_neg (by omega)] | rw [if_pos (by omega)] | rw [if_pos trivial])); first | done | assumption | rfl))) (by first | (exact MkL.v_sort (by assumption)) | (assumption)) ?_
  refine x_aload_0 dX3_errand_16 ?_
  refine x_getI_ dX3_errand_17 fl299_3 (by first | (exact MkL.k_parser (by assumption)) | (first | assumption | exact TxP.kt (by assumption) | (simp only [kd_pf, kd_al, nx_pf, nx_al, true_and, and_true]; (repeat (first | rw [if_neg (by omega)] | rw [if_pos (by omega)] | rw [if_pos trivial])); first | done | assumption | rfl))) (fun r17 => ?_)
  rw [hP1.2.1]
  refine x_bald_ dX3_errand_20 (by first | (exact MkL.k_sort (by assumption)) | (first | assumption | exact TxP.kt (by assumption) | (simp only [kd_pf, kd_al, nx_pf, nx_al, true_and, and_true]; (repeat (first | rw [if_neg (by omega)] | rw [if_pos (by omega)] | rw [if_pos trivial])); first | done | assumption | rfl))) (by first | (exact MkL.x_sort (by assumption) (by omega) (by omega)) | (omega)) (fun r20 => ?_)
  rw [htk]
  refine x_if_ne (tgt := 45) dX3_errand_21 rfl (by omega) (fun c21 => ?_) (fun c21 => ?_)
  · have hk1 : sK b D (a + 1) ≠ 1 := fun z => c21 (srt0.mpr z)
    rw [if_neg (fun q => hk1 q.1.1)] at hp
    have hxt2 := hxt
    refine x_iconst dX3_errand_45 ?_
    refine x_istore_2 dX3_errand_46 rfl ?_
    refine x_iload_2 dX3_errand_47 ?_
    refine x_if_lt (tgt := 80) dX3_errand_48 rfl (by omega) (fun c48 => ?_) (fun c48 => ?_)
    · exact err80 hR1 hi1 hP1 hT1 hxt2 hI (fun z => absurd z hk1) (fun a' u' L' h' e1 e2 e3 e4 e5 e6 => kS a' u' L' h' (hp.trans e1) (by omega) e3 (hg1.tr e4 (by omega)) e5 e6) (fun n tk L' h' e1 e4 e5 e6 => kF n tk L' h' (hp.trans e1) (hg1.tr e4 (by omega)) e5 e6)
    · exact absurd c48 (by decide)
  · have hk1 : sK b D (a + 1) = 1 := srt0.mp c21
    refine x_aload_0 dX3_errand_24 ?_
    refine x_getW dX3_errand_25 fl298_3 rfl (by first | (exact MkL.k_parser (by assumption)) | (first | assumption | exact TxP.kt (by assumption) | (simp only [kd_pf, kd_al, nx_pf, nx_al, true_and, and_true]; (repeat (first | rw [if_neg (by omega)] | rw [if_pos (by omega)] | rw [if_pos trivial])); first | done | assumption | rfl))) (by exact hP1.1) ?_
    refine x_aload_0 dX3_errand_28 ?_
    refine x_getR dX3_errand_29 fl296_3 rfl (by first | (exact MkL.k_parser (by assumption)) | (first | assumption | exact TxP.kt (by assumption) | (simp only [kd_pf, kd_al, nx_pf, nx_al, true_and, and_true]; (repeat (first | rw [if_neg (by omega)] | rw [if_pos (by omega)] | rw [if_pos trivial])); first | done | assumption | rfl))) (by first | (exact MkL.v_t (by assumption)) | (assumption)) ?_
    refine x_aload_0 dX3_errand_32 ?_
    refine x_getI_ dX3_errand_33 fl299_3 (by first | (exact MkL.k_parser (by assumption)) | (first | assumption | exact TxP.kt (by assumption) | (simp only [kd_pf, kd_al, nx_pf, nx_al, true_and, and_true]; (repeat (first | rw [if_neg (by omega)] | rw [if_pos (by omega)] | rw [if_pos trivial])); first | done | assumption | rfl))) (fun r33 => ?_)
    rw [hP1.2.1]
    refine am_wf fun wf => ?_
    refine x_callV1 dX3_errand_36 rfl okX2_text q795 q796 q797 (by first | first | assumption | exact TxP.kt (by assumption) | (simp only [kd_pf, kd_al, nx_pf, nx_al, true_and, and_true]; (repeat (first | rw [if_neg (by omega)] | rw [if_pos (by omega)] | rw [if_pos trivial])); first | done | assumption | rfl) | (exact MkL.k_tokens (by assumption))) am_k2 rfl (C_text hR1 hi1 hk1 (fun L1 h1 r y1 y2 y3 => (x_k1 ?_)))
    have hR2 := hR1.up y2
    have hK2 := hR2.mk
    have hT2 := hT1.up wf y2.1 y3
    have hP2 : PsX h1 x t (a + 1) u := hP1.up (y3 _ (by omega))
    have hg2 : XT L h L1 h1 x t 1 := hg1.tr (y2.xt (t := t) (by omega)) (by omega)
    have hxt2 : x + 1205 ≤ t ∧ t < nx L1 := ⟨hxt.1, by have := y2.2.1; omega⟩
    have hfd := fdM_rg (u := u) (id := sJ b D (a + 1)) hI.1.1
    have hk20 := (hT2.ls hI.1).1
    refine x_callV1 dX3_errand_39 rfl okX4_at q1078 q962 q963 (by exact hT2.kt) am_k4 rfl (C_X4_at hT2 hI.1 y1 (x_k1 ?_))
    refine x_goto (tgt := 46) dX3_errand_42 rfl ?_
    refine x_istore_2 dX3_errand_46 rfl ?_
    refine x_iload_2 dX3_errand_47 ?_
    refine x_if_lt (tgt := 80) dX3_errand_48 rfl (by omega) (fun c48 => ?_) (fun c48 => ?_)
    · first
      | (rw [if_neg (fun q => absurd q.2 (by omega))] at hp
         exact err80 hR2 hi1 hP2 hT2 hxt2 hI (fun _ _ => by omega) (fun a' u' L' h' e1 e2 e3 e4 e5 e6 => kS a' u' L' h' (hp.trans e1) (by omega) e3 (hg2.tr e4 (by omega)) e5 e6) (fun n tk L' h' e1 e4 e5 e6 => kF n tk L' h' (hp.trans e1) (hg2.tr e4 (by omega)) e5 e6))
      | (rw [if_neg (fun q => absurd q.1.2 (by omega))] at hp
         exact err80 hR2 hi1 hP2 hT2 hxt2 hI (fun _ z => absurd z (by omega)) (fun a' u' L' h' e1 e2 e3 e4 e5 e6 => kS a' u' L' h' (hp.trans e1) (by omega) e3 (hg2.tr e4 (by omega)) e5 e6) (fun n tk L' h' e1 e4 e5 e6 => kF n tk L' h' (hp.trans e1) (hg2.tr e4 (by omega)) e5 e6))
    · refine x_aload_0 dX3_errand_51 ?_
      refine x_getW dX3_errand_52 fl298_3 rfl (by first | (exact MkL.k_parser (by assumption)) | (first | assumption | exact TxP.kt (by assumption) | (simp only [kd_pf, kd_al, nx_pf, nx_al, true_and, and_true]; (repeat (first | rw [if_neg (by omega)] | rw [if_pos (by omega)] | rw [if_pos trivial])); first | done | assumption | rfl))) (by exact hP2.1) ?_
      refine x_getR dX3_errand_55 fl353_4 rfl (by first | (exact TxL.k0 (by assumption)) | (first | assumption | exact TxP.kt (by assumption) | (simp only [kd_pf, kd_al, nx_pf, nx_al, true_and, and_true]; (repeat (first | rw [if_neg (by omega)] | rw [if_pos (by omega)] | rw [if_pos trivial])); first | done | assumption | rfl))) (by exact hT2.f0) ?_
      refine x_iload_2 dX3_errand_58 ?_
      refine x_callV1 dX3_errand_59 rfl okJ5_get q1175 q530 q531 (by first | first | assumption | exact TxP.kt (by assumption) | (simp only [kd_pf, kd_al, nx_pf, nx_al, true_and, and_true]; (repeat (first | rw [if_neg (by omega)] | rw [if_pos (by omega)] | rw [if_pos trivial])); first | done | assumption | rfl) | (exact TxL.kl (by assumption))) am_k20 rfl (C_J5_get (hT2.ls hI.1) ⟨by omega, by omega⟩ (x_k1 ?_))
      refine x_cast dX3_errand_62 q789 (by exact (hT2.man (k := fdM u (sJ b D (a + 1))) (by omega) (by omega)).1) am_k14 ?_
      refine x_getKI dX3_errand_65 fl994_14 (by exact (hT2.man (k := fdM u (sJ b D (a + 1))) (by omega) (by omega)).1) (by exact (hT2.man (k := fdM u (sJ b D (a + 1))) (by omega) (by omega)).2.2.2.1) (fun r65 => ?_)
      refine x_bipush dX3_errand_68 rfl ?_
      refine x_icmp_ne (tgt := 80) dX3_errand_70 rfl (by omega) (by omega) (fun c70 => ?_) (fun c70 => ?_)
      · first
        | (rw [if_neg (fun q => absurd q.2 (by omega))] at hp
           exact err80 hR2 hi1 hP2 hT2 hxt2 hI (fun _ _ => by omega) (fun a' u' L' h' e1 e2 e3 e4 e5 e6 => kS a' u' L' h' (hp.trans e1) (by omega) e3 (hg2.tr e4 (by omega)) e5 e6) (fun n tk L' h' e1 e4 e5 e6 => kF n tk L' h' (hp.trans e1) (hg2.tr e4 (by omega)) e5 e6))
        | (rw [if_neg (fun q => absurd q.1.2 (by omega))] at hp
           exact err80 hR2 hi1 hP2 hT2 hxt2 hI (fun _ z => absurd z (by omega)) (fun a' u' L' h' e1 e2 e3 e4 e5 e6 => kS a' u' L' h' (hp.trans e1) (by omega) e3 (hg2.tr e4 (by omega)) e5 e6) (fun n tk L' h' e1 e4 e5 e6 => kF n tk L' h' (hp.trans e1) (hg2.tr e4 (by omega)) e5 e6))
      · refine x_aload_0 dX3_errand_73 ?_
        refine x_iconst dX3_errand_74 ?_
        refine x_iload_1 dX3_errand_75 ?_
        refine x_callV2 dX3_errand_76 rfl okX3_wrongAt q752 q754 qs11 (by first | first | assumption | exact TxP.kt (by assumption) | (simp only [kd_pf, kd_al, nx_pf, nx_al, true_and, and_true]; (repeat (first | rw [if_neg (by omega)] | rw [if_pos (by omega)] | rw [if_pos trivial])); first | done | assumption | rfl) | (exact MkL.k_parser (by assumption))) am_k3 rfl (C_X3_wrongAt (n := 2) hR2 ha0 (by decide) (x_k1 ?_))
        refine x_athrow dX3_errand_79 rfl (by exact hK2.k_fault) ?_
        rw [if_pos ⟨⟨hk1, by omega⟩, by omega⟩] at hp
        exact kF 2 a _ _ hp ((hg2.hh fun y q1 q2 => fltH_o q2).le (by omega)) ha0 ⟨fltH_6, fltH_7⟩
end TERR
