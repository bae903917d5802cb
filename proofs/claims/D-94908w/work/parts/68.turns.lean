/-! OPERATIONS: turns, thieves -/
set_option maxRecDepth 100000
theorem sumI_ab {n : Int} {f : Int → Int} (hn : 0 ≤ n) (h : ∀ k : Int, 0 ≤ k → k < n → -1 ≤ f k ∧ f k ≤ 1) : -n ≤ sumI n f ∧ sumI n f ≤ n := by
  suffices H : ∀ m : Nat, (m : Int) ≤ n → -(m : Int) ≤ sumN m f ∧ sumN m f ≤ m by
    have := H n.toNat (by omega)
    unfold sumI
    omega
  intro m
  induction m with
  | zero =>
    intro _
    show -((0 : Nat) : Int) ≤ 0 ∧ (0 : Int) ≤ ((0 : Nat) : Int)
    omega
  | succ m ih =>
    intro hm
    have h1 := ih (by omega)
    have h2 := h m (by omega) (by omega)
    show -((m + 1 : Nat) : Int) ≤ sumN m f + f m ∧ sumN m f + f m ≤ ((m + 1 : Nat) : Int)
    omega
section TURNS
variable {G : am_G} {d : Nat} {L : am_L} {h h' : am_H} {Q : am_O → am_L → am_H → Prop} {x o s t : Int} {T : Txt} {S : Row} {b q : Int}
/-- what the i-th piece turns about a pillar -/
def turF (T : Txt) (S : Row) (m p i : Int) : Int :=
  if tPX T p < posX T S m i ∧ dY (rW S m i) ≠ 0 ∧ (if posY T S m i + dY (rW S m i) < posY T S m i then posY T S m i + dY (rW S m i) else posY T S m i) = tPY T p then dY (rW S m i) else 0
def turR (T : Txt) (S : Row) (m p : Int) : Int := sumI (rN S m) (turF T S m p)
def turnsV (T : Txt) (S : Row) (m p : Int) : Int := if (0 ≤ m ∧ m < tM T) ∧ (0 ≤ p ∧ p < tP T) then turR T S m p else -1000
theorem turF_bd (T : Txt) (S : Row) (m p i : Int) : -1 ≤ turF T S m p i ∧ turF T S m p i ≤ 1 := by
  have := dY_bd (rW S m i)
  unfold turF
  split <;> omega
theorem turR_bd (hT : TxtI T) (hI : RowI T S b q) {m : Int} (hm : 0 ≤ m ∧ m < tM T) (p : Int) : -60 ≤ turR T S m p ∧ turR T S m p ≤ 60 := by
  have h7 := hT.1
  have hn := hI.n60 hT m hm.1 (by omega)
  have := sumI_ab (f := turF T S m p) hn.1 (fun k _ _ => turF_bd T S m p k)
  unfold turR
  omega
theorem pos_in (hT : TxtI T) (hI : RowI T S b q) {m i : Int} (hm : 0 ≤ m ∧ m < tM T) (hi : 0 ≤ i ∧ i ≤ rN S m) : inT T (posX T S m i) (posY T S m i) := by
  rcases Int.lt_or_le i (rN S m) with z | z
  · exact (hI.2.2.1 m i hm.1 hm.2 hi.1 z).2.2.2.1
  · by_cases e : i = 0
    · rw [e]
      have := (hT.2.2.2.2.2.1 m hm.1 hm.2).1
      unfold posX posY
      rw [sumI_0, sumI_0, Int.add_zero, Int.add_zero]
      exact this
    · have := (hI.2.2.1 m (i - 1) hm.1 hm.2 (by omega) (by omega)).2.2.2.2
      rw [show i - 1 + 1 = i by omega] at this
      exact this
theorem pos_bd (hT : TxtI T) (hI : RowI T S b q) {m i : Int} (hm : 0 ≤ m ∧ m < tM T) (hi : 0 ≤ i ∧ i ≤ rN S m) : (0 ≤ posX T S m i ∧ posX T S m i ≤ 11) ∧ (0 ≤ posY T S m i ∧ posY T S m i ≤ 11) := by
  have := pos_in hT hI hm hi
  unfold inT at this
  have := hT.2.1
  have := hT.2.2.1
  omega
theorem pos_0 (T : Txt) (S : Row) (m : Int) : posX T S m 0 = tDX T m ∧ posY T S m 0 = tDY T m := by
  unfold posX posY
  rw [sumI_0, sumI_0]
  omega
set_option maxHeartbeats 4000000 in
theorem C_X0_turns {m p : Int} (hC : CoT L h x t T S) (hT : TxtI T) (hI : RowI T S b q) (hm : rg32 m) (hp : rg32 p) (k : Q (.inl [aI (turnsV T S m p)]) L h) : am_C G mX0_turns (d + 430) [aR x, aI m, aI p] L h Q := by
  have hK := hC.mk
  have htx := hC.tx
  have hht := hC.ht
  have hcl := hC.cl
  have hM := hT.1
  have hP := hT.2.2.2.2.1
  refine x_start okX0_turns rfl rfl rfl rfl ?_
  refine x_aload_0 dX0_turns_0 ?_
  refine x_iload_1 dX0_turns_1 ?_
  refine x_callV1 dX0_turns_2 rfl okX0_isMan q1192 q1194 qs32 (by first | assumption | (exact MkL.k0 (by assumption))) am_k0 rfl (C_X0_isMan hC hT hm (x_k1 ?_))
  refine x_if_eq (tgt := 25) dX0_turns_5 rfl (by split <;> omega) (fun c5 => ?_) (fun c5 => ?_)
  · skip
    refine x_sipush dX0_turns_25 rfl ?_
    refine x_iret dX0_turns_28 rfl ?_
    refine x_q1 ?_ k
    unfold turnsV
    rw [if_neg (fun z => by obtain ⟨z1, z2⟩ := z; first | (rw [if_pos z1] at c5; omega) | (rw [if_pos (by omega)] at c22; omega))]
  · refine x_iload_2 dX0_turns_8 ?_
    refine x_iconst dX0_turns_9 ?_
    refine x_aload_0 dX0_turns_10 ?_
    refine x_getW dX0_turns_11 fl574_0 rfl (by first | (exact MkL.k0 (by assumption)) | (assumption)) (by assumption) ?_
    refine x_getKI dX0_turns_14 fl373_4 (by first | (exact TxL.k0 (by assumption)) | (assumption)) (by first | (exact TxL.vP (by assumption)) | (assumption)) (fun r14 => ?_)
    refine x_iconst dX0_turns_17 ?_
    refine x_isub dX0_turns_18 ?_
    refine x_callS3 dX0_turns_19 rfl okX0_isIn q1201 q1202 rfl (C_X0_isIn hp ⟨by decide, by decide⟩ ⟨by omega, by omega⟩ (x_k1 ?_))
    refine x_if_ne (tgt := 29) dX0_turns_22 rfl (by split <;> omega) (fun c22 => ?_) (fun c22 => ?_)
    · have hm1 : 0 ≤ m ∧ m < tM T := by split at c5 <;> omega
      have hp1 : 0 ≤ p ∧ p < tP T := by split at c22 <;> omega
      have hma := htx.man hm1.1 hm1.2
      have bn := hI.n60 hT m hm1.1 (by omega)
      obtain ⟨p0x, p0y⟩ := pos_0 T S m
      have en := hC.rc.2.1 m hm1.1 (by omega)
      have ek := hC.rc.2.2.2.1 m
      have pb := (hT.2.2.2.2.2.2.1 p hp1.1 hp1.2)
      refine x_iconst dX0_turns_29 ?_
      refine x_istore_3 dX0_turns_30 rfl ?_
      refine x_aload_0 dX0_turns_31 ?_
      refine x_getW dX0_turns_32 fl574_0 rfl (by first | (exact MkL.k0 (by assumption)) | (assumption)) (by assumption) ?_
      refine x_getR dX0_turns_35 fl352_4 rfl (by first | (exact TxL.k0 (by assumption)) | (assumption)) (by first | (rfl) | (assumption)) ?_
      refine x_iload_1 dX0_turns_38 ?_
      refine x_callV1 dX0_turns_39 rfl okJ5_get q1204 q530 q531 (by first | assumption | (exact TxL.kl (by assumption))) am_k20 rfl (C_J5_get htx.ls hm1 (x_k1 ?_))
      refine x_cast dX0_turns_42 q1205 (by first | assumption | (exact ManL.k0 (by assumption))) am_k14 ?_
      refine x_getKI dX0_turns_45 fl990_14 (by first | (exact ManL.k0 (by assumption)) | (assumption)) (by first | (exact ManL.x (by assumption)) | (assumption)) (fun r45 => ?_)
      refine x_istore4 dX0_turns_48 rfl ?_
      refine x_aload_0 dX0_turns_50 ?_
      refine x_getW dX0_turns_51 fl574_0 rfl (by first | (exact MkL.k0 (by assumption)) | (assumption)) (by assumption) ?_
      refine x_getR dX0_turns_54 fl352_4 rfl (by first | (exact TxL.k0 (by assumption)) | (assumption)) (by first | (rfl) | (assumption)) ?_
      refine x_iload_1 dX0_turns_57 ?_
      refine x_callV1 dX0_turns_58 rfl okJ5_get q1204 q530 q531 (by first | assumption | (exact TxL.kl (by assumption))) am_k20 rfl (C_J5_get htx.ls hm1 (x_k1 ?_))
      refine x_cast dX0_turns_61 q1205 (by first | assumption | (exact ManL.k0 (by assumption))) am_k14 ?_
      refine x_getKI dX0_turns_64 fl993_14 (by first | (exact ManL.k0 (by assumption)) | (assumption)) (by first | (exact ManL.y (by assumption)) | (assumption)) (fun r64 => ?_)
      refine x_istore5 dX0_turns_67 rfl ?_
      refine x_iconst dX0_turns_69 ?_
      refine x_istore6 dX0_turns_70 rfl ?_
      rw [← p0x, ← p0y]
      refine x_up1 (rN S m) (fun i w => 0 ≤ i → i ≤ rN S m → am_X G mX0_turns (d + 430) 72 [aR x, aI m, aI p, aI (sumI i (turF T S m p)), aI (posX T S m i), aI (posY T S m i), aI i, w] [] L h Q) (fun i w ih g0 g1 => ?_) 0 aU (by omega) bn.1
      have pbd := pos_bd hT hI hm1 ⟨g0, g1⟩
      refine x_iload6 dX0_turns_72 ?_
      refine x_aload_0 dX0_turns_74 ?_
      refine x_getR dX0_turns_75 fl578_0 rfl (by first | (exact MkL.k0 (by assumption)) | (assumption)) (by first | (exact MkL.v_cloth (by assumption)) | (assumption)) ?_
      refine x_getR dX0_turns_78 fl438_5 rfl (by first | (exact ClL.k0 (by assumption)) | (assumption)) (by first | (exact ClL.f2 (by assumption)) | (assumption)) ?_
      refine x_iload_1 dX0_turns_81 ?_
      refine x_iald_ dX0_turns_82 (by first | (exact ClL.k3 (by assumption)) | (assumption)) (by first | (exact ClL.r3 (by assumption) (by omega) (by omega)) | (omega)) (fun r82 => ?_)
      simp (disch := omega) only [en] at r82 ⊢
      refine x_icmp_ge (tgt := 181) dX0_turns_83 rfl (by omega) (by omega) (fun c83 => ?_) (fun c83 => ?_)
      · refine x_iload_3 dX0_turns_181 ?_
        refine x_iret dX0_turns_182 rfl ?_
        rw [show i = rN S m by omega]
        refine x_q1 ?_ k
        unfold turnsV
        rw [if_pos ⟨hm1, hp1⟩]
        rfl
      · have ew := (ek i hm1.1 (by omega) g0 (by omega)).1
        have bw := (hI.2.2.1 m i hm1.1 hm1.2 g0 (by omega)).1
        have bdx := dX_bd (rW S m i)
        have bdy := dY_bd (rW S m i)
        have nxt : ∀ v, v = sumI i (turF T S m p) + turF T S m p i → am_X G mX0_turns (d + 430) 72 [aR x, aI m, aI p, aI v, aI (posX T S m i + dX (rW S m i)), aI (posY T S m i + dY (rW S m i)), aI (i + 1), aI (rW S m i)] [] L h Q := fun v e => by
          have := ih (by omega) (aI (rW S m i)) (by omega) (by omega)
          rw [posX_s g0, posY_s g0, sumI_s _ g0, ← e] at this
          exact this
        refine x_aload_0 dX0_turns_86 ?_
        refine x_getR dX0_turns_87 fl578_0 rfl (by first | (exact MkL.k0 (by assumption)) | (assumption)) (by first | (exact MkL.v_cloth (by assumption)) | (assumption)) ?_
        refine x_getR dX0_turns_90 fl443_5 rfl (by first | (exact ClL.k0 (by assumption)) | (assumption)) (by first | (exact ClL.f4 (by assumption)) | (assumption)) ?_
        refine x_iload_1 dX0_turns_93 ?_
        refine x_aald dX0_turns_94 (by first | (exact ClL.k5 (by assumption)) | (assumption)) (by decide) (by decide) (by first | (exact ClL.r5 (by assumption) (by omega) (by omega)) | (omega)) (by first | (exact ClL.fw (by assumption) (by omega) (by omega)) | (assumption)) ?_
        refine x_iload6 dX0_turns_95 ?_
        refine x_iald_ dX0_turns_97 (by first | (exact ClL.kw (by assumption) (by omega) (by omega)) | (assumption)) (by first | (exact ClL.rw (by assumption) (by omega) (by omega) (by omega) (by omega)) | (omega)) (fun r97 => ?_)
        simp (disch := omega) only [ew] at r97 ⊢
        refine x_istore7 dX0_turns_98 rfl ?_
        refine x_iload4 dX0_turns_100 ?_
        refine x_aload_0 dX0_turns_102 ?_
        refine x_getW dX0_turns_103 fl574_0 rfl (by first | (exact MkL.k0 (by assumption)) | (assumption)) (by assumption) ?_
        refine x_getR dX0_turns_106 fl356_4 rfl (by first | (exact TxL.k0 (by assumption)) | (assumption)) (by first | (rfl) | (assumption)) ?_
        refine x_iload_2 dX0_turns_109 ?_
        refine x_sld_ dX0_turns_110 (by first | (exact TxL.kpx (by assumption)) | (assumption)) (by first | (exact TxL.xpx (by assumption) (by omega) (by omega)) | (omega)) (fun r110 => ?_)
        simp (disch := omega) only [(htx.px hp1.1 hp1.2)] at r110 ⊢
        refine x_icmp_le (tgt := 155) dX0_turns_111 rfl (by omega) (by omega) (fun c111 => ?_) (fun c111 => ?_)
        · refine x_iload4 dX0_turns_155 ?_
          refine x_iload7 dX0_turns_157 ?_
          refine x_callS1 dX0_turns_159 rfl okX0_byX q1256 q1247 rfl (C_X0_byX ⟨by omega, by omega⟩ (x_k1 ?_))
          refine x_iadd dX0_turns_162 ?_
          refine x_istore4 dX0_turns_163 rfl ?_
          refine x_iload5 dX0_turns_165 ?_
          refine x_iload7 dX0_turns_167 ?_
          refine x_callS1 dX0_turns_169 rfl okX0_byY q1258 q1250 rfl (C_X0_byY ⟨by omega, by omega⟩ (x_k1 ?_))
          refine x_iadd dX0_turns_172 ?_
          refine x_istore5 dX0_turns_173 rfl ?_
          refine x_iinc6 dX0_turns_175 rfl ?_
          refine x_goto (tgt := 72) dX0_turns_178 rfl ?_
          refine nxt _ ?_
          unfold turF
          first
          | (rw [if_pos ⟨by omega, by omega, c144⟩]; done)
          | (rw [if_neg (fun z => by omega)]; omega)
          | (rw [if_neg (fun z => c144 z.2.2)]; omega)
          | (rw [if_neg (fun z => by have := z.2.2; omega)]; omega)
        · refine x_iload7 dX0_turns_114 ?_
          refine x_callS1 dX0_turns_116 rfl okX0_byY q1258 q1250 rfl (C_X0_byY ⟨by omega, by omega⟩ (x_k1 ?_))
          refine x_if_eq (tgt := 155) dX0_turns_119 rfl (by omega) (fun c119 => ?_) (fun c119 => ?_)
          · refine x_iload4 dX0_turns_155 ?_
            refine x_iload7 dX0_turns_157 ?_
            refine x_callS1 dX0_turns_159 rfl okX0_byX q1256 q1247 rfl (C_X0_byX ⟨by omega, by omega⟩ (x_k1 ?_))
            refine x_iadd dX0_turns_162 ?_
            refine x_istore4 dX0_turns_163 rfl ?_
            refine x_iload5 dX0_turns_165 ?_
            refine x_iload7 dX0_turns_167 ?_
            refine x_callS1 dX0_turns_169 rfl okX0_byY q1258 q1250 rfl (C_X0_byY ⟨by omega, by omega⟩ (x_k1 ?_))
            refine x_iadd dX0_turns_172 ?_
            refine x_istore5 dX0_turns_173 rfl ?_
            refine x_iinc6 dX0_turns_175 rfl ?_
            refine x_goto (tgt := 72) dX0_turns_178 rfl ?_
            refine nxt _ ?_
            unfold turF
            first
            | (rw [if_pos ⟨by omega, by omega, c144⟩]; done)
            | (rw [if_neg (fun z => by omega)]; omega)
            | (rw [if_neg (fun z => c144 z.2.2)]; omega)
            | (rw [if_neg (fun z => by have := z.2.2; omega)]; omega)
          · refine x_iload5 dX0_turns_122 ?_
            refine x_iload5 dX0_turns_124 ?_
            refine x_iload7 dX0_turns_126 ?_
            refine x_callS1 dX0_turns_128 rfl okX0_byY q1258 q1250 rfl (C_X0_byY ⟨by omega, by omega⟩ (x_k1 ?_))
            refine x_iadd dX0_turns_131 ?_
            refine x_mmin dX0_turns_132 q1257 q569 q135 q570 rfl (by omega) (by omega) ?_
            refine x_aload_0 dX0_turns_135 ?_
            refine x_getW dX0_turns_136 fl574_0 rfl (by first | (exact MkL.k0 (by assumption)) | (assumption)) (by assumption) ?_
            refine x_getR dX0_turns_139 fl359_4 rfl (by first | (exact TxL.k0 (by assumption)) | (assumption)) (by first | (rfl) | (assumption)) ?_
            refine x_iload_2 dX0_turns_142 ?_
            refine x_sld_ dX0_turns_143 (by first | (exact TxL.kpy (by assumption)) | (assumption)) (by first | (exact TxL.xpy (by assumption) (by omega) (by omega)) | (omega)) (fun r143 => ?_)
            simp (disch := omega) only [(htx.py hp1.1 hp1.2)] at r143 ⊢
            refine x_icmp_ne (tgt := 155) dX0_turns_144 rfl (by first | omega | (split <;> omega)) (by first | omega | (split <;> omega)) (fun c144 => ?_) (fun c144 => ?_)
            · refine x_iload4 dX0_turns_155 ?_
              refine x_iload7 dX0_turns_157 ?_
              refine x_callS1 dX0_turns_159 rfl okX0_byX q1256 q1247 rfl (C_X0_byX ⟨by omega, by omega⟩ (x_k1 ?_))
              refine x_iadd dX0_turns_162 ?_
              refine x_istore4 dX0_turns_163 rfl ?_
              refine x_iload5 dX0_turns_165 ?_
              refine x_iload7 dX0_turns_167 ?_
              refine x_callS1 dX0_turns_169 rfl okX0_byY q1258 q1250 rfl (C_X0_byY ⟨by omega, by omega⟩ (x_k1 ?_))
              refine x_iadd dX0_turns_172 ?_
              refine x_istore5 dX0_turns_173 rfl ?_
              refine x_iinc6 dX0_turns_175 rfl ?_
              refine x_goto (tgt := 72) dX0_turns_178 rfl ?_
              refine nxt _ ?_
              unfold turF
              first
              | (rw [if_pos ⟨by omega, by omega, c144⟩]; done)
              | (rw [if_neg (fun z => by omega)]; omega)
              | (rw [if_neg (fun z => c144 z.2.2)]; omega)
              | (rw [if_neg (fun z => by have := z.2.2; omega)]; omega)
            · refine x_iload_3 dX0_turns_147 ?_
              refine x_iload7 dX0_turns_148 ?_
              refine x_callS1 dX0_turns_150 rfl okX0_byY q1258 q1250 rfl (C_X0_byY ⟨by omega, by omega⟩ (x_k1 ?_))
              refine x_iadd dX0_turns_153 ?_
              refine x_istore_3 dX0_turns_154 rfl ?_
              refine x_iload4 dX0_turns_155 ?_
              refine x_iload7 dX0_turns_157 ?_
              refine x_callS1 dX0_turns_159 rfl okX0_byX q1256 q1247 rfl (C_X0_byX ⟨by omega, by omega⟩ (x_k1 ?_))
              refine x_iadd dX0_turns_162 ?_
              refine x_istore4 dX0_turns_163 rfl ?_
              refine x_iload5 dX0_turns_165 ?_
              refine x_iload7 dX0_turns_167 ?_
              refine x_callS1 dX0_turns_169 rfl okX0_byY q1258 q1250 rfl (C_X0_byY ⟨by omega, by omega⟩ (x_k1 ?_))
              refine x_iadd dX0_turns_172 ?_
              refine x_istore5 dX0_turns_173 rfl ?_
              refine x_iinc6 dX0_turns_175 rfl ?_
              refine x_goto (tgt := 72) dX0_turns_178 rfl ?_
              refine nxt _ ?_
              unfold turF
              first
              | (rw [if_pos ⟨by omega, by omega, c144⟩]; done)
              | (rw [if_neg (fun z => by omega)]; omega)
              | (rw [if_neg (fun z => c144 z.2.2)]; omega)
              | (rw [if_neg (fun z => by have := z.2.2; omega)]; omega)
    · skip
      refine x_sipush dX0_turns_25 rfl ?_
      refine x_iret dX0_turns_28 rfl ?_
      refine x_q1 ?_ k
      unfold turnsV
      rw [if_neg (fun z => by obtain ⟨z1, z2⟩ := z; first | (rw [if_pos z1] at c5; omega) | (rw [if_pos (by omega)] at c22; omega))]
theorem turn_st {px py w : Int} (hx : 0 ≤ px ∧ px ≤ 11) (hy : 0 ≤ py ∧ py ≤ 11) (hw : 1 ≤ w ∧ w ≤ 4) (hx' : 0 ≤ px + dX w ∧ px + dX w ≤ 11) (hy' : 0 ≤ py + dY w ∧ py + dY w ≤ 11) :
    (dY w = 0 ∧ s2 (stO px py w) < 144) ∨ (dY w ≠ 0 ∧ dY w = (if w = 1 then 1 else -1) ∧ s2 (stO px py w) - 144 = 12 * (if py + dY w < py then py + dY w else py) + px) := by
  unfold s2 stO
  unfold dX at hx' ⊢
  unfold dY at hy' ⊢
  (repeat' split) <;> omega
set_option maxHeartbeats 4000000 in
theorem C_X13_turnsOf {m p : Int} (hM : MdT L h o s T) (hR : RwF (h (o + 38)) (tM T) S) (hT : TxtI T) (hI : RowI T S b q) (hm : 0 ≤ m ∧ m < tM T) (hp : 0 ≤ p ∧ p < tP T) (k : Q (.inl [aI (turR T S m p)]) L h) : am_C G mX13_turnsOf (d + 1) [aR o, aI m, aI p] L h Q := by
  have hL := hM.1
  have hs := hM.2.1
  have hlv := hM.2.2.1
  have hM7 := hT.1
  have hP := hT.2.2.2.2.1
  have en := (hR.1 m hm.1 (by omega)).1
  have bn := hI.n60 hT m hm.1 (by omega)
  obtain ⟨epx, epy⟩ := hM.2.2.2.2.2.2.2.2.2.1 p hp.1 hp.2
  have pb := (hT.2.2.2.2.2.2.1 p hp.1 hp.2)
  refine x_start okX13_turnsOf rfl rfl rfl rfl ?_
  refine x_iconst dX13_turnsOf_0 ?_
  refine x_istore_3 dX13_turnsOf_1 rfl ?_
  refine x_iconst dX13_turnsOf_2 ?_
  refine x_istore4 dX13_turnsOf_3 rfl ?_
  skip
  refine x_up2 (rN S m) (fun i w5 w6 => 0 ≤ i → i ≤ rN S m → am_X G mX13_turnsOf (d + 1) 5 [aR o, aI m, aI p, aI (sumI i (turF T S m p)), aI i, w5, w6] [] L h Q) (fun i w5 w6 ih g0 g1 => ?_) 0 aU aU (by omega) bn.1
  refine x_iload4 dX13_turnsOf_5 ?_
  refine x_aload_0 dX13_turnsOf_7 ?_
  refine x_getR dX13_turnsOf_8 fl1630_13 rfl (by first | (exact MdL.k0 (by assumption)) | (assumption)) (by first | (exact MdL.v_row (by assumption)) | (assumption)) ?_
  refine x_bipush dX13_turnsOf_11 rfl ?_
  refine x_iload_1 dX13_turnsOf_13 ?_
  refine x_iadd dX13_turnsOf_14 ?_
  refine x_iald_ dX13_turnsOf_15 (by first | (exact MdL.k_row (by assumption)) | (assumption)) (by first | (exact MdL.x_row (by assumption) (by omega) (by omega)) | (omega)) (fun r15 => ?_)
  simp (disch := omega) only [en] at r15 ⊢
  refine x_icmp_ge (tgt := 130) dX13_turnsOf_16 rfl (by omega) (by omega) (fun c16 => ?_) (fun c16 => ?_)
  · refine x_iload_3 dX13_turnsOf_130 ?_
    refine x_iret dX13_turnsOf_131 rfl ?_
    rw [show i = rN S m by omega]
    exact k
  · obtain ⟨ew, et, es⟩ := hR.2.2.1 m i hm.1 (by omega) g0 (by omega)
    rw [← Int.add_assoc] at ew es
    obtain ⟨bw, -, bst, pi, pi1⟩ := hI.2.2.1 m i hm.1 hm.2 g0 (by omega)
    have q0 := pos_bd hT hI hm ⟨g0, g1⟩
    have q1 := pos_bd hT hI hm (i := i + 1) ⟨by omega, by omega⟩
    rw [posX_s g0, posY_s g0] at q1
    have ts := turn_st q0.1 q0.2 bw q1.1 q1.2
    rw [bst] at es
    have bs := hI.st hT m i hm.1 hm.2 g0 (by omega)
    rw [bst] at bs
    have bs2 := s2_bd bs
    generalize s2 (stO (posX T S m i) (posY T S m i) (rW S m i)) = sv at es ts bs2
    have hts : dY (rW S m i) ≠ 0 → 144 ≤ sv := fun z => by
      rcases ts with ts | ⟨t1, t2, t3⟩
      · exact absurd ts.1 z
      · have : 0 ≤ (if posY T S m i + dY (rW S m i) < posY T S m i then posY T S m i + dY (rW S m i) else posY T S m i) := by split <;> omega
        omega
    have nxt : ∀ v w5 w6, v = sumI i (turF T S m p) + turF T S m p i → am_X G mX13_turnsOf (d + 1) 5 [aR o, aI m, aI p, aI v, aI (i + 1), w5, w6] [] L h Q := fun v w5 w6 e => by
      have := ih (by omega) w5 w6 (by omega) (by omega)
      rw [sumI_s _ g0, ← e] at this
      exact this
    refine x_aload_0 dX13_turnsOf_19 ?_
    refine x_getR dX13_turnsOf_20 fl1630_13 rfl (by first | (exact MdL.k0 (by assumption)) | (assumption)) (by first | (exact MdL.v_row (by assumption)) | (assumption)) ?_
    refine x_bipush dX13_turnsOf_23 rfl ?_
    refine x_bipush dX13_turnsOf_25 rfl ?_
    refine x_iload_1 dX13_turnsOf_27 ?_
    refine x_imul dX13_turnsOf_28 ?_
    refine x_iadd dX13_turnsOf_29 ?_
    refine x_iload4 dX13_turnsOf_30 ?_
    refine x_iadd dX13_turnsOf_32 ?_
    refine x_iald_ dX13_turnsOf_33 (by first | (exact MdL.k_row (by assumption)) | (assumption)) (by first | (exact MdL.x_row (by assumption) (by omega) (by omega)) | (omega)) (fun r33 => ?_)
    simp (disch := omega) only [ew, es] at r33 ⊢
    refine x_istore5 dX13_turnsOf_34 rfl ?_
    refine x_aload_0 dX13_turnsOf_36 ?_
    refine x_getR dX13_turnsOf_37 fl1630_13 rfl (by first | (exact MdL.k0 (by assumption)) | (assumption)) (by first | (exact MdL.v_row (by assumption)) | (assumption)) ?_
    refine x_sipush dX13_turnsOf_40 rfl ?_
    refine x_bipush dX13_turnsOf_43 rfl ?_
    refine x_iload_1 dX13_turnsOf_45 ?_
    refine x_imul dX13_turnsOf_46 ?_
    refine x_iadd dX13_turnsOf_47 ?_
    refine x_iload4 dX13_turnsOf_48 ?_
    refine x_iadd dX13_turnsOf_50 ?_
    refine x_iald_ dX13_turnsOf_51 (by first | (exact MdL.k_row (by assumption)) | (assumption)) (by first | (exact MdL.x_row (by assumption) (by omega) (by omega)) | (omega)) (fun r51 => ?_)
    simp (disch := omega) only [ew, es] at r51 ⊢
    refine x_sipush dX13_turnsOf_52 rfl ?_
    refine x_isub dX13_turnsOf_55 ?_
    refine x_istore6 dX13_turnsOf_56 rfl ?_
    refine x_iload6 dX13_turnsOf_58 ?_
    refine x_if_lt (tgt := 124) dX13_turnsOf_60 rfl (by omega) (fun c60 => ?_) (fun c60 => ?_)
    · refine x_iinc4 dX13_turnsOf_124 rfl ?_
      refine x_goto (tgt := 5) dX13_turnsOf_127 rfl ?_
      refine nxt _ _ _ ?_
      unfold turF
      rw [if_neg (fun z => by have := hts z.2.1; omega)]
      omega
    · have q63 : 144 ≤ sv := by omega
      have e1 : bDiv (sv - 144) 12 = (sv - 144) / 12 := bDiv_nn ⟨by omega, by omega⟩ ⟨by decide, by decide⟩
      have e2 : bRem (sv - 144) 12 = (sv - 144) % 12 := bRem_nn ⟨by omega, by omega⟩ ⟨by decide, by decide⟩
      obtain ⟨t1, t2, t3⟩ : dY (rW S m i) ≠ 0 ∧ dY (rW S m i) = (if rW S m i = 1 then 1 else -1) ∧ sv - 144 = 12 * (if posY T S m i + dY (rW S m i) < posY T S m i then posY T S m i + dY (rW S m i) else posY T S m i) + posX T S m i := by
        rcases ts with ts | ts
        · omega
        · exact ts
      generalize hmn : (if posY T S m i + dY (rW S m i) < posY T S m i then posY T S m i + dY (rW S m i) else posY T S m i) = mn at t3
      have hmb : 0 ≤ mn ∧ mn ≤ 11 := by
        rw [← hmn]
        split <;> omega
      refine x_iload6 dX13_turnsOf_63 ?_
      refine x_bipush dX13_turnsOf_65 rfl ?_
      refine x_idiv dX13_turnsOf_67 (by omega) (by omega) ?_
      refine x_aload_0 dX13_turnsOf_68 ?_
      refine x_getR dX13_turnsOf_69 fl1607_13 rfl (by first | (exact MdL.k0 (by assumption)) | (assumption)) (by first | (exact MdL.v_pillarY (by assumption)) | (assumption)) ?_
      refine x_bipush dX13_turnsOf_72 rfl ?_
      refine x_aload_0 dX13_turnsOf_74 ?_
      refine x_getI_ dX13_turnsOf_75 fl1592_13 (by first | (exact MdL.k0 (by assumption)) | (assumption)) (fun r75 => ?_)
      rw [hlv] at r75 ⊢
      refine x_imul dX13_turnsOf_78 ?_
      refine x_iload_2 dX13_turnsOf_79 ?_
      refine x_iadd dX13_turnsOf_80 ?_
      refine x_iald_ dX13_turnsOf_81 (by first | (exact MdL.k_pillarY (by assumption)) | (assumption)) (by first | (exact MdL.x_pillarY (by assumption) (by omega) (by omega)) | (omega)) (fun r81 => ?_)
      simp (disch := omega) only [epy] at r81 ⊢
      refine x_icmp_ne (tgt := 124) dX13_turnsOf_82 rfl (by omega) (by omega) (fun c82 => ?_) (fun c82 => ?_)
      · refine x_iinc4 dX13_turnsOf_124 rfl ?_
        refine x_goto (tgt := 5) dX13_turnsOf_127 rfl ?_
        refine nxt _ _ _ ?_
        unfold turF
        rw [hmn]
        first
        | (rw [if_pos ⟨by omega, t1, by omega⟩]; split at t2 <;> omega)
        | (rw [if_neg (fun z => by omega)]; omega)
      · refine x_iload6 dX13_turnsOf_85 ?_
        refine x_bipush dX13_turnsOf_87 rfl ?_
        refine x_irem dX13_turnsOf_89 (by omega) (by omega) ?_
        refine x_aload_0 dX13_turnsOf_90 ?_
        refine x_getR dX13_turnsOf_91 fl1606_13 rfl (by first | (exact MdL.k0 (by assumption)) | (assumption)) (by first | (exact MdL.v_pillarX (by assumption)) | (assumption)) ?_
        refine x_bipush dX13_turnsOf_94 rfl ?_
        refine x_aload_0 dX13_turnsOf_96 ?_
        refine x_getI_ dX13_turnsOf_97 fl1592_13 (by first | (exact MdL.k0 (by assumption)) | (assumption)) (fun r97 => ?_)
        rw [hlv] at r97 ⊢
        refine x_imul dX13_turnsOf_100 ?_
        refine x_iload_2 dX13_turnsOf_101 ?_
        refine x_iadd dX13_turnsOf_102 ?_
        refine x_iald_ dX13_turnsOf_103 (by first | (exact MdL.k_pillarX (by assumption)) | (assumption)) (by first | (exact MdL.x_pillarX (by assumption) (by omega) (by omega)) | (omega)) (fun r103 => ?_)
        simp (disch := omega) only [epx] at r103 ⊢
        refine x_icmp_gt (tgt := 110) dX13_turnsOf_104 rfl (by omega) (by omega) (fun c104 => ?_) (fun c104 => ?_)
        · refine x_iload_3 dX13_turnsOf_110 ?_
          refine x_iload5 dX13_turnsOf_111 ?_
          refine x_iconst dX13_turnsOf_113 ?_
          refine x_icmp_ne (tgt := 121) dX13_turnsOf_114 rfl (by omega) (by omega) (fun c114 => ?_) (fun c114 => ?_)
          · refine x_iconst dX13_turnsOf_121 ?_
            refine x_iadd dX13_turnsOf_122 ?_
            refine x_istore_3 dX13_turnsOf_123 rfl ?_
            refine x_iinc4 dX13_turnsOf_124 rfl ?_
            refine x_goto (tgt := 5) dX13_turnsOf_127 rfl ?_
            refine nxt _ _ _ ?_
            unfold turF
            rw [hmn]
            first
            | (rw [if_pos ⟨by omega, t1, by omega⟩]; split at t2 <;> omega)
            | (rw [if_neg (fun z => by omega)]; omega)
          · refine x_iconst dX13_turnsOf_117 ?_
            refine x_goto (tgt := 122) dX13_turnsOf_118 rfl ?_
            refine x_iadd dX13_turnsOf_122 ?_
            refine x_istore_3 dX13_turnsOf_123 rfl ?_
            refine x_iinc4 dX13_turnsOf_124 rfl ?_
            refine x_goto (tgt := 5) dX13_turnsOf_127 rfl ?_
            refine nxt _ _ _ ?_
            unfold turF
            rw [hmn]
            first
            | (rw [if_pos ⟨by omega, t1, by omega⟩]; split at t2 <;> omega)
            | (rw [if_neg (fun z => by omega)]; omega)
        · refine x_goto (tgt := 124) dX13_turnsOf_107 rfl ?_
          refine x_iinc4 dX13_turnsOf_124 rfl ?_
          refine x_goto (tgt := 5) dX13_turnsOf_127 rfl ?_
          refine nxt _ _ _ ?_
          unfold turF
          rw [hmn]
          first
          | (rw [if_pos ⟨by omega, t1, by omega⟩]; split at t2 <;> omega)
          | (rw [if_neg (fun z => by omega)]; omega)
theorem C_X13_turns {m p : Int} (hC : TwT L h o s T S) (hT : TxtI T) (hI : RowI T S b q) (hm : rg32 m) (hp : rg32 p) (k : ∀ h', FrW h h' o → Q (.inl [aI (turnsV T S m p)]) L h') : am_C G mX13_turns (d + 12) [aR o, aI m, aI p] L h Q := by
  have hM := hC.1
  have hL := hM.1
  have hs := hM.2.1
  have hlv := hM.2.2.1
  have hpil := hM.2.2.2.2.2.2.1
  have hP := hT.2.2.2.2.1
  refine x_start okX13_turns rfl rfl rfl rfl ?_
  refine x_aload_0 dX13_turns_0 ?_
  refine x_iload_1 dX13_turns_1 ?_
  refine x_callV1 dX13_turns_2 rfl okX13_isMan q1927 q1929 qs80 (by first | assumption | (exact MdL.k0 (by assumption))) am_k13 rfl (C_X13_isMan hM hT hm (x_k1 ?_))
  refine x_if_eq (tgt := 27) dX13_turns_5 rfl (by split <;> omega) (fun c5 => ?_) (fun c5 => ?_)
  · skip
    refine x_sipush dX13_turns_27 rfl ?_
    refine x_iret dX13_turns_30 rfl ?_
    refine x_q1 ?_ (k h (FrW.rf h o))
    unfold turnsV
    rw [if_neg (fun z => by obtain ⟨z1, z2⟩ := z; first | (rw [if_pos z1] at c5; omega) | (rw [if_pos (by omega)] at c24; omega))]
  · refine x_iload_2 dX13_turns_8 ?_
    refine x_iconst dX13_turns_9 ?_
    refine x_aload_0 dX13_turns_10 ?_
    refine x_getR dX13_turns_11 fl1605_13 rfl (by first | (exact MdL.k0 (by assumption)) | (assumption)) (by first | (exact MdL.v_pillars (by assumption)) | (assumption)) ?_
    refine x_aload_0 dX13_turns_14 ?_
    refine x_getI_ dX13_turns_15 fl1592_13 (by first | (exact MdL.k0 (by assumption)) | (assumption)) (fun r15 => ?_)
    rw [hlv] at r15 ⊢
    refine x_iald_ dX13_turns_18 (by first | (exact MdL.k_pillars (by assumption)) | (assumption)) (by first | (exact MdL.x_pillars (by assumption) (by omega) (by omega)) | (omega)) (fun r18 => ?_)
    rw [hpil] at r18 ⊢
    refine x_iconst dX13_turns_19 ?_
    refine x_isub dX13_turns_20 ?_
    refine x_callS3 dX13_turns_21 rfl okX13_in q1931 q1932 rfl (C_X13_in hp ⟨by decide, by decide⟩ ⟨by omega, by omega⟩ (x_k1 ?_))
    refine x_if_ne (tgt := 31) dX13_turns_24 rfl (by split <;> omega) (fun c24 => ?_) (fun c24 => ?_)
    · have hm1 : 0 ≤ m ∧ m < tM T := by split at c5 <;> omega
      have hp1 : 0 ≤ p ∧ p < tP T := by split at c24 <;> omega
      refine x_aload_0 dX13_turns_31 ?_
      refine x_callV0 dX13_turns_32 rfl okX13_copies q1934 q1936 qs81 (by first | assumption | (exact MdL.k0 (by assumption))) am_k13 rfl (C_X13_copiesR hL hC.2 hI hT (fun h1 e1 f1 e2 e3 => (x_k0 ?_)))
      refine x_aload_0 dX13_turns_35 ?_
      refine x_iload_1 dX13_turns_36 ?_
      refine x_iload_2 dX13_turns_37 ?_
      refine x_callV2 dX13_turns_38 rfl okX13_turnsOf q2101 q2103 qs101 (by first | assumption | (exact MdL.k0 (by assumption))) am_k13 rfl (C_X13_turnsOf (hM.fr f1) e2 hT hI hm1 hp1 (x_k1 ?_))
      refine x_iret dX13_turns_41 rfl ?_
      refine x_q1 ?_ (k h1 f1)
      unfold turnsV
      rw [if_pos ⟨hm1, hp1⟩]
    · skip
      refine x_sipush dX13_turns_27 rfl ?_
      refine x_iret dX13_turns_30 rfl ?_
      refine x_q1 ?_ (k h (FrW.rf h o))
      unfold turnsV
      rw [if_neg (fun z => by obtain ⟨z1, z2⟩ := z; first | (rw [if_pos z1] at c5; omega) | (rw [if_pos (by omega)] at c24; omega))]
/-- does a man turn the wrong way about one of the first n pillars -/
def thP (T : Txt) (S : Row) (m : Int) : Nat → Bool
  | 0 => false
  | n + 1 => thP T S m n || decide (turR T S m n < 0)
def thR (T : Txt) (S : Row) : Int → Bool := fun m => thP T S m (tP T).toNat
def thievesV (T : Txt) (S : Row) : Int := bset (thR T S) (tM T).toNat
theorem thP_s {m p : Int} (hp : 0 ≤ p) : thP T S m (p + 1).toNat = (thP T S m p.toNat || decide (turR T S m p < 0)) := by
  rw [show (p + 1).toNat = p.toNat + 1 by omega]
  show (_ || decide (turR T S m (p.toNat : Nat) < 0)) = _
  rw [show ((p.toNat : Nat) : Int) = p by omega]
theorem bOr_same {a c : Int} (ha : 0 ≤ a ∧ a < 128) (hc : 0 ≤ c ∧ c < 128) : bOr (bOr a c) c = bOr a c := by
  have h1 := (bOr_bt ha hc (m := 0) ⟨by decide, by decide⟩).2
  refine bt_ext (bOr_bt h1 hc (m := 0) ⟨by decide, by decide⟩).2 h1 fun m z0 z1 => ?_
  rw [(bOr_bt h1 hc (m := m) ⟨z0, z1⟩).1, (bOr_bt ha hc (m := m) ⟨z0, z1⟩).1]
  (repeat' split) <;> omega
set_option maxHeartbeats 4000000 in
theorem C_X0_thieves (hC : CoT L h x t T S) (hT : TxtI T) (hI : RowI T S b q) (k : Q (.inl [aI (thievesV T S)]) L h) : am_C G mX0_thieves (d + 440) [aR x] L h Q := by
  have hK := hC.mk
  have htx := hC.tx
  have hht := hC.ht
  have hM := hT.1
  have hP := hT.2.2.2.2.1
  refine x_start okX0_thieves rfl rfl rfl rfl ?_
  refine x_iconst dX0_thieves_0 ?_
  refine x_istore_1 dX0_thieves_1 rfl ?_
  refine x_iconst dX0_thieves_2 ?_
  refine x_istore_2 dX0_thieves_3 rfl ?_
  skip
  refine x_up1 (tM T) (fun i w => 0 ≤ i → i ≤ tM T → am_X G mX0_thieves (d + 440) 4 [aR x, aI (bset (thR T S) i.toNat), aI i, w] [] L h Q) (fun i w ih g0 g1 => ?_) 0 aU (by omega) hM.1
  have bi := (bset_ok (thR T S) i.toNat (by omega)).1
  refine x_iload_2 dX0_thieves_4 ?_
  refine x_aload_0 dX0_thieves_5 ?_
  refine x_callV0 dX0_thieves_6 rfl okX0_men q1196 q1198 qs33 (by first | assumption | (exact MkL.k0 (by assumption))) am_k0 rfl (C_X0_men hC (x_k1 ?_))
  refine x_icmp_ge (tgt := 56) dX0_thieves_9 rfl (by omega) (by omega) (fun c9 => ?_) (fun c9 => ?_)
  · refine x_iload_1 dX0_thieves_56 ?_
    refine x_iret dX0_thieves_57 rfl ?_
    rw [show i = tM T by omega]
    exact k
  · refine x_iconst dX0_thieves_12 ?_
    refine x_istore_3 dX0_thieves_13 rfl ?_
    have hi : i < tM T := by omega
    have sb := (shl_bt (m := i) ⟨g0, by omega⟩ (o := 0) ⟨by decide, by decide⟩).2
    have ob := (bOr_bt bi sb (m := 0) ⟨by decide, by decide⟩).2
    refine x_up0 (tP T) (fun p => 0 ≤ p → p ≤ tP T → am_X G mX0_thieves (d + 440) 14 [aR x, aI (if thP T S i p.toNat = true then bOr (bset (thR T S) i.toNat) (bShl 1 i) else bset (thR T S) i.toNat), aI i, aI p] [] L h Q) (fun p ihp y0 y1 => ?_) 0 (by omega) hP.1
    have tb := fun p => turR_bd (S := S) hT hI (m := i) ⟨g0, hi⟩ p
    have nxt : ∀ v, p < tP T → v = (if thP T S i (p + 1).toNat = true then bOr (bset (thR T S) i.toNat) (bShl 1 i) else bset (thR T S) i.toNat) → am_X G mX0_thieves (d + 440) 14 [aR x, aI v, aI i, aI (p + 1)] [] L h Q := fun v z e => by rw [e]; exact ihp z (by omega) (by omega)
    refine x_iload_3 dX0_thieves_14 ?_
    refine x_aload_0 dX0_thieves_15 ?_
    refine x_getW dX0_thieves_16 fl574_0 rfl (by first | (exact MkL.k0 (by assumption)) | (assumption)) (by assumption) ?_
    refine x_getKI dX0_thieves_19 fl373_4 (by first | (exact TxL.k0 (by assumption)) | (assumption)) (by first | (exact TxL.vP (by assumption)) | (assumption)) (fun r19 => ?_)
    refine x_icmp_ge (tgt := 50) dX0_thieves_22 rfl (by omega) (by omega) (fun c22 => ?_) (fun c22 => ?_)
    · refine x_iinc2 dX0_thieves_50 rfl ?_
      refine x_goto (tgt := 4) dX0_thieves_53 rfl ?_
      have := ih hi (aI p) (by omega) (by omega)
      rw [bset_s _ g0] at this
      rw [show p = tP T by omega] at this ⊢
      exact this
    · refine x_iload_1 dX0_thieves_25 ?_
      refine x_aload_0 dX0_thieves_26 ?_
      refine x_iload_2 dX0_thieves_27 ?_
      refine x_iload_3 dX0_thieves_28 ?_
      refine x_callV2 dX0_thieves_29 rfl okX0_turns q1489 q1376 q1377 (by first | assumption | (exact MkL.k0 (by assumption))) am_k0 rfl (C_X0_turns hC hT hI ⟨by omega, by omega⟩ ⟨by omega, by omega⟩ (x_k1 ?_))
      rw [show turnsV T S i p = turR T S i p from if_pos ⟨⟨g0, hi⟩, ⟨y0, by omega⟩⟩]
      refine x_if_ge (tgt := 41) dX0_thieves_32 rfl (by have := tb p; omega) (fun c32 => ?_) (fun c32 => ?_)
      · refine x_iconst dX0_thieves_41 ?_
        refine x_ior dX0_thieves_42 ?_
        refine x_istore_1 dX0_thieves_43 rfl ?_
        refine x_iinc3 dX0_thieves_44 rfl ?_
        refine x_goto (tgt := 14) dX0_thieves_47 rfl ?_
        refine nxt _ (by omega) ?_
        rw [thP_s y0]
        first
        | (rw [decide_eq_true (p := turR T S i p < 0) (by omega), Bool.or_true, if_pos rfl]; split; exact bOr_same bi sb; rfl)
        | (rw [decide_eq_false (p := turR T S i p < 0) (by omega), Bool.or_false]; split <;> exact bOr_0 ⟨by omega, by omega⟩)
      · refine x_iconst dX0_thieves_35 ?_
        refine x_iload_2 dX0_thieves_36 ?_
        refine x_ishl dX0_thieves_37 ?_
        refine x_goto (tgt := 42) dX0_thieves_38 rfl ?_
        refine x_ior dX0_thieves_42 ?_
        refine x_istore_1 dX0_thieves_43 rfl ?_
        refine x_iinc3 dX0_thieves_44 rfl ?_
        refine x_goto (tgt := 14) dX0_thieves_47 rfl ?_
        refine nxt _ (by omega) ?_
        rw [thP_s y0]
        first
        | (rw [decide_eq_true (p := turR T S i p < 0) (by omega), Bool.or_true, if_pos rfl]; split; exact bOr_same bi sb; rfl)
        | (rw [decide_eq_false (p := turR T S i p < 0) (by omega), Bool.or_false]; split <;> exact bOr_0 ⟨by omega, by omega⟩)
set_option maxHeartbeats 4000000 in
theorem C_X13_thieves (hC : TwT L h o s T S) (hT : TxtI T) (hI : RowI T S b q) (k : ∀ h', FrW h h' o → Q (.inl [aI (thievesV T S)]) L h') : am_C G mX13_thieves (d + 12) [aR o] L h Q := by
  have hM := hC.1
  have hL := hM.1
  have hs := hM.2.1
  have hM7 := hT.1
  have hP := hT.2.2.2.2.1
  refine x_start okX13_thieves rfl rfl rfl rfl ?_
  refine x_aload_0 dX13_thieves_0 ?_
  refine x_callV0 dX13_thieves_1 rfl okX13_copies q1934 q1936 qs81 (by first | assumption | (exact MdL.k0 (by assumption))) am_k13 rfl (C_X13_copiesR hL hC.2 hI hT (fun h1 e1 f1 e2 e3 => (x_k0 ?_)))
  refine x_iconst dX13_thieves_4 ?_
  refine x_istore_1 dX13_thieves_5 rfl ?_
  refine x_iconst dX13_thieves_6 ?_
  refine x_istore_2 dX13_thieves_7 rfl ?_
  have hM1 := hM.fr f1
  have hlv := hM1.2.2.1
  have hmen := hM1.2.2.2.1
  have hpil := hM1.2.2.2.2.2.2.1
  refine x_up1 (tM T) (fun i w => 0 ≤ i → i ≤ tM T → am_X G mX13_thieves (d + 12) 8 [aR o, aI (bset (thR T S) i.toNat), aI i, w] [] L h1 Q) (fun i w ih g0 g1 => ?_) 0 aU (by omega) hM7.1
  have bi := (bset_ok (thR T S) i.toNat (by omega)).1
  refine x_iload_2 dX13_thieves_8 ?_
  refine x_aload_0 dX13_thieves_9 ?_
  refine x_getR dX13_thieves_10 fl1598_13 rfl (by first | (exact MdL.k0 (by assumption)) | (assumption)) (by first | (exact MdL.v_men (by assumption)) | (assumption)) ?_
  refine x_aload_0 dX13_thieves_13 ?_
  refine x_getI_ dX13_thieves_14 fl1592_13 (by first | (exact MdL.k0 (by assumption)) | (assumption)) (fun r14 => ?_)
  rw [hlv] at r14 ⊢
  refine x_iald_ dX13_thieves_17 (by first | (exact MdL.k_men (by assumption)) | (assumption)) (by first | (exact MdL.x_men (by assumption) (by omega) (by omega)) | (omega)) (fun r17 => ?_)
  rw [hmen] at r17 ⊢
  refine x_icmp_ge (tgt := 63) dX13_thieves_18 rfl (by omega) (by omega) (fun c18 => ?_) (fun c18 => ?_)
  · refine x_iload_1 dX13_thieves_63 ?_
    refine x_iret dX13_thieves_64 rfl ?_
    rw [show i = tM T by omega]
    exact k h1 f1
  · refine x_iconst dX13_thieves_21 ?_
    refine x_istore_3 dX13_thieves_22 rfl ?_
    have hi : i < tM T := by omega
    have sb := (shl_bt (m := i) ⟨g0, by omega⟩ (o := 0) ⟨by decide, by decide⟩).2
    have ob := (bOr_bt bi sb (m := 0) ⟨by decide, by decide⟩).2
    refine x_up0 (tP T) (fun p => 0 ≤ p → p ≤ tP T → am_X G mX13_thieves (d + 12) 23 [aR o, aI (if thP T S i p.toNat = true then bOr (bset (thR T S) i.toNat) (bShl 1 i) else bset (thR T S) i.toNat), aI i, aI p] [] L h1 Q) (fun p ihp y0 y1 => ?_) 0 (by omega) hP.1
    have tb := fun p => turR_bd (S := S) hT hI (m := i) ⟨g0, hi⟩ p
    have nxt : ∀ v, p < tP T → v = (if thP T S i (p + 1).toNat = true then bOr (bset (thR T S) i.toNat) (bShl 1 i) else bset (thR T S) i.toNat) → am_X G mX13_thieves (d + 12) 23 [aR o, aI v, aI i, aI (p + 1)] [] L h1 Q := fun v z e => by rw [e]; exact ihp z (by omega) (by omega)
    refine x_iload_3 dX13_thieves_23 ?_
    refine x_aload_0 dX13_thieves_24 ?_
    refine x_getR dX13_thieves_25 fl1605_13 rfl (by first | (exact MdL.k0 (by assumption)) | (assumption)) (by first | (exact MdL.v_pillars (by assumption)) | (assumption)) ?_
    refine x_aload_0 dX13_thieves_28 ?_
    refine x_getI_ dX13_thieves_29 fl1592_13 (by first | (exact MdL.k0 (by assumption)) | (assumption)) (fun r29 => ?_)
    rw [hlv] at r29 ⊢
    refine x_iald_ dX13_thieves_32 (by first | (exact MdL.k_pillars (by assumption)) | (assumption)) (by first | (exact MdL.x_pillars (by assumption) (by omega) (by omega)) | (omega)) (fun r32 => ?_)
    rw [hpil] at r32 ⊢
    refine x_icmp_ge (tgt := 57) dX13_thieves_33 rfl (by omega) (by omega) (fun c33 => ?_) (fun c33 => ?_)
    · refine x_iinc2 dX13_thieves_57 rfl ?_
      refine x_goto (tgt := 8) dX13_thieves_60 rfl ?_
      have := ih hi (aI p) (by omega) (by omega)
      rw [bset_s _ g0] at this
      rw [show p = tP T by omega] at this ⊢
      exact this
    · refine x_aload_0 dX13_thieves_36 ?_
      refine x_iload_2 dX13_thieves_37 ?_
      refine x_iload_3 dX13_thieves_38 ?_
      refine x_callV2 dX13_thieves_39 rfl okX13_turnsOf q2101 q2103 qs101 (by first | assumption | (exact MdL.k0 (by assumption))) am_k13 rfl (C_X13_turnsOf hM1 e2 hT hI ⟨g0, hi⟩ ⟨y0, by omega⟩ (x_k1 ?_))
      refine x_if_ge (tgt := 51) dX13_thieves_42 rfl (by have := tb p; omega) (fun c42 => ?_) (fun c42 => ?_)
      · refine x_iinc3 dX13_thieves_51 rfl ?_
        refine x_goto (tgt := 23) dX13_thieves_54 rfl ?_
        refine nxt _ (by omega) ?_
        rw [thP_s y0]
        first
        | (rw [decide_eq_true (p := turR T S i p < 0) (by omega), Bool.or_true, if_pos rfl]; split; exact bOr_same bi sb; rfl)
        | (rw [decide_eq_false (p := turR T S i p < 0) (by omega), Bool.or_false]; done)
      · refine x_iload_1 dX13_thieves_45 ?_
        refine x_iconst dX13_thieves_46 ?_
        refine x_iload_2 dX13_thieves_47 ?_
        refine x_ishl dX13_thieves_48 ?_
        refine x_ior dX13_thieves_49 ?_
        refine x_istore_1 dX13_thieves_50 rfl ?_
        refine x_iinc3 dX13_thieves_51 rfl ?_
        refine x_goto (tgt := 23) dX13_thieves_54 rfl ?_
        refine nxt _ (by omega) ?_
        rw [thP_s y0]
        first
        | (rw [decide_eq_true (p := turR T S i p < 0) (by omega), Bool.or_true, if_pos rfl]; split; exact bOr_same bi sb; rfl)
        | (rw [decide_eq_false (p := turR T S i p < 0) (by omega), Bool.or_false]; done)
end TURNS
