/-! THREADTOWN READS: the whole script -/
set_option maxRecDepth 100000
section XREAD
variable {G : am_G} {L L' L0 : am_L} {h h' h2 h0 : am_H} {x t a c w D N : Int} {b : Int → Int} {d : Nat} {Q : am_O → am_L → am_H → Prop} {u u' : PS}
theorem srt3 {k : Int} : srt k = 3 ↔ 20 ≤ k := by
  unfold srt
  constructor
  · intro z
    repeat' split at z
    all_goals omega
  · intro z
    repeat' split
    all_goals omega
theorem srt4 {k : Int} : srt k = 4 ↔ k = 0 := by
  unfold srt
  constructor
  · intro z
    repeat' split at z
    all_goals omega
  · intro z
    subst z
    rfl
theorem pTold_no {K V I : Int → Int} (z : ∀ w, 20 ≤ w → w ≤ 27 → K a ≠ w) : pTold K V I a u = .inr (1, a) := by
  unfold pTold
  rw [if_neg (z 20 (by decide) (by decide)), if_neg (z 21 (by decide) (by decide)), if_neg (z 22 (by decide) (by decide)), if_neg (z 23 (by decide) (by decide)), if_neg (z 24 (by decide) (by decide)), if_neg (z 25 (by decide) (by decide)), if_neg (z 26 (by decide) (by decide)), if_neg (z 27 (by decide) (by decide))]
theorem C_X3_told (hR : RdX L h x b D N) (ha : inN N a) (hP : PsX h x t a u) (hT : TxP L h t u) (hxt : x + 1205 ≤ t ∧ t < nx L) (hI : PsI u) (hQ : ToK L h x t a b D N u Q) : am_C G mX3_told (d + 30) [aR (x + 9)] L h Q := by
  have hQ9 := hQ
  obtain ⟨kS, kF⟩ := hQ9
  have hK := hR.mk
  have ha0 := ha.1
  have ha4 := ha.2
  have hx := hR.2.1
  have hD := hR.2.2.1
  have hND := hR.2.2.2.2.2.1
  have hsr := srt_rg (sK b D a)
  have htk := hR.tk ha0
  have hs3 := srt3 (k := sK b D a)
  refine x_start okX3_told rfl rfl rfl rfl ?_
  refine x_aload_0 dX3_told_0 ?_
  refine x_callV0 dX3_told_1 rfl okX3_sort q744 q746 qs9 (by first | first | assumption | exact TxP.kt (by assumption) | (simp only [kd_pf, kd_al, nx_pf, nx_al, true_and, and_true]; (repeat (first | rw [if_neg (by omega)] | rw [if_pos (by omega)] | rw [if_pos trivial])); first | done | assumption | rfl) | (exact MkL.k_parser (by assumption))) am_k3 rfl (C_X3_sort hR hP.2.1 ha (fun z1 => (x_k1 ?_)) (fun z1 => x_kx ⟨hK.k_fault, kF 1 a _ _ (pTold_no fun w _ _ => by omega) (((XT.rf L h x t).hh fun y q1 q2 => fltH_o q2).le (by omega)) ha0 ⟨fltH_6, fltH_7⟩⟩))
  refine x_iconst dX3_told_4 ?_
  refine x_icmp_ne (tgt := 23) dX3_told_5 rfl (by omega) (by omega) (fun c5 => ?_) (fun c5 => ?_)
  · refine x_iconst dX3_told_23 ?_
    try rw [htk.2.2.2 (by omega), if_neg (by omega)]
    refine x_istore_1 dX3_told_24 rfl ?_
    refine x_iload_1 dX3_told_25 ?_
    refine x_cs (0) (fun c26 => ?_) (fun c26_0 => ?_)
    · refine x_tableIn (off := 46) (tgt := 72) dX3_told_26 (by omega) (by omega) (by omega) (by rw [c26]; rfl) rfl ?_
      exact told_wide hR ha hP hT hxt hI (by omega) hQ
    refine x_cs (1) (fun c26 => ?_) (fun c26_1 => ?_)
    · refine x_tableIn (off := 81) (tgt := 107) dX3_told_26 (by omega) (by omega) (by omega) (by rw [c26]; rfl) rfl ?_
      exact told_man hR ha hP hT hxt hI (by omega) hQ
    refine x_cs (2) (fun c26 => ?_) (fun c26_2 => ?_)
    · refine x_tableIn (off := 167) (tgt := 193) dX3_told_26 (by omega) (by omega) (by omega) (by rw [c26]; rfl) rfl ?_
      exact told_goes hR ha hP hT hxt hI (by omega) hQ
    refine x_cs (3) (fun c26 => ?_) (fun c26_3 => ?_)
    · refine x_tableIn (off := 206) (tgt := 232) dX3_told_26 (by omega) (by omega) (by omega) (by rw [c26]; rfl) rfl ?_
      exact told_long hR ha hP hT hxt hI (by omega) hQ
    refine x_cs (4) (fun c26 => ?_) (fun c26_4 => ?_)
    · refine x_tableIn (off := 224) (tgt := 250) dX3_told_26 (by omega) (by omega) (by omega) (by rw [c26]; rfl) rfl ?_
      refine x_aload_0 dX3_told_250 ?_
      refine x_callV0 dX3_told_251 rfl okX3_errand q1176 q1178 qs31 (by first | first | assumption | exact TxP.kt (by assumption) | (simp only [kd_pf, kd_al, nx_pf, nx_al, true_and, and_true]; (repeat (first | rw [if_neg (by omega)] | rw [if_pos (by omega)] | rw [if_pos trivial])); first | done | assumption | rfl) | (exact MkL.k_parser (by assumption))) am_k3 rfl (told_errand hR ha hP hT hxt hI (by omega) ⟨fun a' u' L' h' e1 e2 e3 e4 e5 e6 => (x_k0 ?_), fun n tk L' h' e1 e4 e5 e6 => x_kx ⟨(hR.ut e4 hxt.1).mk.k_fault, kF n tk L' h' e1 e4 e5 e6⟩⟩)
      refine x_goto (tgt := 400) dX3_told_254 rfl ?_
      refine x_ret dX3_told_400 rfl ?_
      exact kS a' u' L' h' e1 e2 e3 e4 e5 e6
    refine x_cs (5) (fun c26 => ?_) (fun c26_5 => ?_)
    · refine x_tableIn (off := 231) (tgt := 257) dX3_told_26 (by omega) (by omega) (by omega) (by rw [c26]; rfl) rfl ?_
      exact told_pillar hR ha hP hT hxt hI (by omega) hQ
    refine x_cs (6) (fun c26 => ?_) (fun c26_6 => ?_)
    · refine x_tableIn (off := 304) (tgt := 330) dX3_told_26 (by omega) (by omega) (by omega) (by rw [c26]; rfl) rfl ?_
      exact told_dye hR ha hP hT hxt hI (by omega) hQ
    refine x_cs (7) (fun c26 => ?_) (fun c26_7 => ?_)
    · refine x_tableIn (off := 346) (tgt := 372) dX3_told_26 (by omega) (by omega) (by omega) (by rw [c26]; rfl) rfl ?_
      exact told_seed hR ha hP hT hxt (by omega) hQ
    refine x_tableOut (tgt := 394) dX3_told_26 (by omega) (by omega) rfl ?_
    refine x_aload_0 dX3_told_394 ?_
    refine x_iconst dX3_told_395 ?_
    refine x_callV1 dX3_told_396 rfl okX3_wrong q748 q750 qs10 (by first | first | assumption | exact TxP.kt (by assumption) | (simp only [kd_pf, kd_al, nx_pf, nx_al, true_and, and_true]; (repeat (first | rw [if_neg (by omega)] | rw [if_pos (by omega)] | rw [if_pos trivial])); first | done | assumption | rfl) | (exact MkL.k_parser (by assumption))) am_k3 rfl (C_X3_wrong (n := 1) hR hP.2.1 ha0 (by decide) (x_k1 ?_))
    refine x_athrow dX3_told_399 rfl (by exact hK.k_fault) ?_
    exact kF 1 a _ _ (pTold_no fun w _ _ => by omega) (((XT.rf L h x t).hh fun y q1 q2 => fltH_o q2).le (by omega)) ha0 ⟨fltH_6, fltH_7⟩
  · refine x_aload_0 dX3_told_8 ?_
    refine x_getR dX3_told_9 fl296_3 rfl (by first | (exact MkL.k_parser (by assumption)) | (first | assumption | exact TxP.kt (by assumption) | (simp only [kd_pf, kd_al, nx_pf, nx_al, true_and, and_true]; (repeat (first | rw [if_neg (by omega)] | rw [if_pos (by omega)] | rw [if_pos trivial])); first | done | assumption | rfl))) (by first | (exact MkL.v_t (by assumption)) | (assumption)) ?_
    refine x_getR dX3_told_12 fl270_2 rfl (by first | (exact MkL.k_tokens (by assumption)) | (first | assumption | exact TxP.kt (by assumption) | (simp only [kd_pf, kd_al, nx_pf, nx_al, true_and, and_true]; (repeat (first | rw [if_neg (by omega)] | rw [if_pos (by omega)] | rw [if_pos trivial])); first | done | assumption | rfl))) (by first | (exact MkL.v_what (by assumption)) | (assumption)) ?_
    refine x_aload_0 dX3_told_15 ?_
    refine x_getI_ dX3_told_16 fl299_3 (by first | (exact MkL.k_parser (by assumption)) | (first | assumption | exact TxP.kt (by assumption) | (simp only [kd_pf, kd_al, nx_pf, nx_al, true_and, and_true]; (repeat (first | rw [if_neg (by omega)] | rw [if_pos (by omega)] | rw [if_pos trivial])); first | done | assumption | rfl))) (fun r16 => ?_)
    rw [hP.2.1]
    refine x_sald_ dX3_told_19 (by first | (exact MkL.k_what (by assumption)) | (first | assumption | exact TxP.kt (by assumption) | (simp only [kd_pf, kd_al, nx_pf, nx_al, true_and, and_true]; (repeat (first | rw [if_neg (by omega)] | rw [if_pos (by omega)] | rw [if_pos trivial])); first | done | assumption | rfl))) (by first | (exact MkL.x_what (by assumption) (by omega) (by omega)) | (omega)) (fun r19 => ?_)
    refine x_goto (tgt := 24) dX3_told_20 rfl ?_
    try rw [htk.2.2.2 (by omega), if_neg (by omega)]
    refine x_istore_1 dX3_told_24 rfl ?_
    refine x_iload_1 dX3_told_25 ?_
    refine x_cs (0) (fun c26 => ?_) (fun c26_0 => ?_)
    · refine x_tableIn (off := 46) (tgt := 72) dX3_told_26 (by omega) (by omega) (by omega) (by rw [c26]; rfl) rfl ?_
      exact told_wide hR ha hP hT hxt hI (by omega) hQ
    refine x_cs (1) (fun c26 => ?_) (fun c26_1 => ?_)
    · refine x_tableIn (off := 81) (tgt := 107) dX3_told_26 (by omega) (by omega) (by omega) (by rw [c26]; rfl) rfl ?_
      exact told_man hR ha hP hT hxt hI (by omega) hQ
    refine x_cs (2) (fun c26 => ?_) (fun c26_2 => ?_)
    · refine x_tableIn (off := 167) (tgt := 193) dX3_told_26 (by omega) (by omega) (by omega) (by rw [c26]; rfl) rfl ?_
      exact told_goes hR ha hP hT hxt hI (by omega) hQ
    refine x_cs (3) (fun c26 => ?_) (fun c26_3 => ?_)
    · refine x_tableIn (off := 206) (tgt := 232) dX3_told_26 (by omega) (by omega) (by omega) (by rw [c26]; rfl) rfl ?_
      exact told_long hR ha hP hT hxt hI (by omega) hQ
    refine x_cs (4) (fun c26 => ?_) (fun c26_4 => ?_)
    · refine x_tableIn (off := 224) (tgt := 250) dX3_told_26 (by omega) (by omega) (by omega) (by rw [c26]; rfl) rfl ?_
      refine x_aload_0 dX3_told_250 ?_
      refine x_callV0 dX3_told_251 rfl okX3_errand q1176 q1178 qs31 (by first | first | assumption | exact TxP.kt (by assumption) | (simp only [kd_pf, kd_al, nx_pf, nx_al, true_and, and_true]; (repeat (first | rw [if_neg (by omega)] | rw [if_pos (by omega)] | rw [if_pos trivial])); first | done | assumption | rfl) | (exact MkL.k_parser (by assumption))) am_k3 rfl (told_errand hR ha hP hT hxt hI (by omega) ⟨fun a' u' L' h' e1 e2 e3 e4 e5 e6 => (x_k0 ?_), fun n tk L' h' e1 e4 e5 e6 => x_kx ⟨(hR.ut e4 hxt.1).mk.k_fault, kF n tk L' h' e1 e4 e5 e6⟩⟩)
      refine x_goto (tgt := 400) dX3_told_254 rfl ?_
      refine x_ret dX3_told_400 rfl ?_
      exact kS a' u' L' h' e1 e2 e3 e4 e5 e6
    refine x_cs (5) (fun c26 => ?_) (fun c26_5 => ?_)
    · refine x_tableIn (off := 231) (tgt := 257) dX3_told_26 (by omega) (by omega) (by omega) (by rw [c26]; rfl) rfl ?_
      exact told_pillar hR ha hP hT hxt hI (by omega) hQ
    refine x_cs (6) (fun c26 => ?_) (fun c26_6 => ?_)
    · refine x_tableIn (off := 304) (tgt := 330) dX3_told_26 (by omega) (by omega) (by omega) (by rw [c26]; rfl) rfl ?_
      exact told_dye hR ha hP hT hxt hI (by omega) hQ
    refine x_cs (7) (fun c26 => ?_) (fun c26_7 => ?_)
    · refine x_tableIn (off := 346) (tgt := 372) dX3_told_26 (by omega) (by omega) (by omega) (by rw [c26]; rfl) rfl ?_
      exact told_seed hR ha hP hT hxt (by omega) hQ
    refine x_tableOut (tgt := 394) dX3_told_26 (by omega) (by omega) rfl ?_
    refine x_aload_0 dX3_told_394 ?_
    refine x_iconst dX3_told_395 ?_
    refine x_callV1 dX3_told_396 rfl okX3_wrong q748 q750 qs10 (by first | first | assumption | exact TxP.kt (by assumption) | (simp only [kd_pf, kd_al, nx_pf, nx_al, true_and, and_true]; (repeat (first | rw [if_neg (by omega)] | rw [if_pos (by omega)] | rw [if_pos trivial])); first | done | assumption | rfl) | (exact MkL.k_parser (by assumption))) am_k3 rfl (C_X3_wrong (n := 1) hR hP.2.1 ha0 (by decide) (x_k1 ?_))
    refine x_athrow dX3_told_399 rfl (by exact hK.k_fault) ?_
    exact kF 1 a _ _ (pTold_no fun w _ _ => by omega) (((XT.rf L h x t).hh fun y q1 q2 => fltH_o q2).le (by omega)) ha0 ⟨fltH_6, fltH_7⟩
end XREAD
