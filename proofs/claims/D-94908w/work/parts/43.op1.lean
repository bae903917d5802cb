/-! OPERATIONS: man, piece, over -/
set_option maxRecDepth 100000
section OP1
variable {G : am_G} {d : Nat} {L : am_L} {h h' : am_H} {Q : am_O → am_L → am_H → Prop} {x o s t : Int} {T : Txt} {S : Row} {b q : Int}
theorem doesR_lost {m off : Int} (h : bt (rL S) m = 1) : doesR T S m off = 0 := by
  unfold doesR
  split
  · rfl
  · exact if_pos h
/-- how far apart two numbers are -/
def apa (a c : Int) : Int := if a < c then c - a else a - c
noncomputable def manV (T : Txt) (S : Row) (m what : Int) : Int := by
  classical exact if ¬ (0 ≤ m ∧ m < tM T) then -1 else if what = 0 then rX S m else if what = 1 then rY S m else if what = 2 then rN S m else if what = 3 then lng T m - rN S m else if what = 4 then bt (rL S) m else if what = 5 then apa (rX S m) (tDX T m) + apa (rY S m) (tDY T m) else if what = 6 then doesR T S m 0 else if what = 7 then tDye T m else -1
set_option maxHeartbeats 4000000 in
theorem C_X0_man {m w : Int} (hC : CoT L h x t T S) (hT : TxtI T) (hI : RowI T S b q) (hb : b ≤ 90000) (hm : rg32 m) (hw : rg32 w) (k : ∀ h', FrS h h' x → Q (.inl [aI (manV T S m w)]) L h') : am_C G mX0_man (d + 430) [aR x, aI m, aI w] L h Q := by
  have hK := hC.mk
  have htx := hC.tx
  have hht := hC.ht
  have hcl := hC.cl
  have hrc := hC.rc
  have hM := hT.1
  have k0 : ∀ v, v = manV T S m w → Q (.inl [aI v]) L h := fun v e => by rw [e]; exact k h (FrS.rf h x)
  refine x_start okX0_man rfl rfl rfl rfl ?_
  refine x_aload_0 dX0_man_0 ?_
  refine x_iload_1 dX0_man_1 ?_
  refine x_callV1 dX0_man_2 rfl okX0_isMan q1192 q1194 qs32 (by first | assumption | (exact MkL.k0 (by assumption))) am_k0 rfl (C_X0_isMan hC hT hm (x_k1 ?_))
  refine x_if_ne (tgt := 10) dX0_man_5 rfl (by split <;> omega) (fun c5 => ?_) (fun c5 => ?_)
  · have hm1 : 0 ≤ m ∧ m < tM T := by split at c5 <;> omega
    have hma := htx.man hm1.1 hm1.2
    obtain ⟨-, rn, rx, -, r7, -, -⟩ := hrc
    have en := rn m hm1.1 (by omega)
    obtain ⟨ex, ey, el⟩ := rx m hm1.1 hm1.2
    have b01 := bt_01 (rL S) m
    have bl := lng_bd hT m
    have bn := (hI.1 m hm1.1 (by omega)).1
    have bx := (hI.2.1 m hm1.1 hm1.2).1
    have bm := hI.2.2.2.2.2.2.1
    unfold inT at bx
    have bw := hT.2.1
    have bd := hT.2.2.1
    have bdo := (hT.2.2.2.2.2.1 m hm1.1 hm1.2).1
    unfold inT at bdo
    have mV : manV T S m w = if w = 0 then rX S m else if w = 1 then rY S m else if w = 2 then rN S m else if w = 3 then lng T m - rN S m else if w = 4 then bt (rL S) m else if w = 5 then apa (rX S m) (tDX T m) + apa (rY S m) (tDY T m) else if w = 6 then doesR T S m 0 else if w = 7 then tDye T m else -1 := by
      unfold manV
      rw [if_neg (by omega)]
    refine x_aload_0 dX0_man_10 ?_
    refine x_getW dX0_man_11 fl574_0 rfl (by first | (exact MkL.k0 (by assumption)) | (assumption)) (by assumption) ?_
    refine x_getR dX0_man_14 fl352_4 rfl (by first | (exact TxL.k0 (by assumption)) | (assumption)) (by first | (rfl) | (assumption)) ?_
    refine x_iload_1 dX0_man_17 ?_
    refine x_callV1 dX0_man_18 rfl okJ5_get q1204 q530 q531 (by first | assumption | (exact TxL.kl (by assumption))) am_k20 rfl (C_J5_get htx.ls hm1 (x_k1 ?_))
    refine x_cast dX0_man_21 q1205 (by first | assumption | (exact ManL.k0 (by assumption))) am_k14 ?_
    refine x_astore_3 dX0_man_24 rfl ?_
    refine x_iload_2 dX0_man_25 ?_
    refine x_cs (0) (fun c26 => ?_) (fun c26_0 => ?_)
    · refine x_tableIn (off := 46) (tgt := 72) dX0_man_26 (by omega) (by omega) (by omega) (by rw [c26]; rfl) rfl ?_
      refine x_aload_0 dX0_man_72 ?_
      refine x_getR dX0_man_73 fl578_0 rfl (by first | (exact MkL.k0 (by assumption)) | (assumption)) (by first | (exact MkL.v_cloth (by assumption)) | (assumption)) ?_
      refine x_getR dX0_man_76 fl432_5 rfl (by first | (exact ClL.k0 (by assumption)) | (assumption)) (by first | (exact ClL.f0 (by assumption)) | (assumption)) ?_
      refine x_iload_1 dX0_man_79 ?_
      refine x_iald_ dX0_man_80 (by first | (exact ClL.k1 (by assumption)) | (assumption)) (by first | (exact ClL.r1 (by assumption) (by omega) (by omega)) | (omega)) (fun r80 => ?_)
      simp (disch := omega) only [ex] at r80 ⊢
      refine x_iret dX0_man_81 rfl ?_
      refine k0 _ ?_
      rw [mV, if_pos (by omega)]
    refine x_cs (1) (fun c26 => ?_) (fun c26_1 => ?_)
    · refine x_tableIn (off := 56) (tgt := 82) dX0_man_26 (by omega) (by omega) (by omega) (by rw [c26]; rfl) rfl ?_
      refine x_aload_0 dX0_man_82 ?_
      refine x_getR dX0_man_83 fl578_0 rfl (by first | (exact MkL.k0 (by assumption)) | (assumption)) (by first | (exact MkL.v_cloth (by assumption)) | (assumption)) ?_
      refine x_getR dX0_man_86 fl434_5 rfl (by first | (exact ClL.k0 (by assumption)) | (assumption)) (by first | (exact ClL.f1 (by assumption)) | (assumption)) ?_
      refine x_iload_1 dX0_man_89 ?_
      refine x_iald_ dX0_man_90 (by first | (exact ClL.k2 (by assumption)) | (assumption)) (by first | (exact ClL.r2 (by assumption) (by omega) (by omega)) | (omega)) (fun r90 => ?_)
      simp (disch := omega) only [ey] at r90 ⊢
      refine x_iret dX0_man_91 rfl ?_
      refine k0 _ ?_
      rw [mV]
      first | (rw [c26]; rfl) | (simp [*]; done) | ((repeat' split) <;> omega) | (unfold apa; (repeat' split) <;> omega)
    refine x_cs (2) (fun c26 => ?_) (fun c26_2 => ?_)
    · refine x_tableIn (off := 66) (tgt := 92) dX0_man_26 (by omega) (by omega) (by omega) (by rw [c26]; rfl) rfl ?_
      refine x_aload_0 dX0_man_92 ?_
      refine x_getR dX0_man_93 fl578_0 rfl (by first | (exact MkL.k0 (by assumption)) | (assumption)) (by first | (exact MkL.v_cloth (by assumption)) | (assumption)) ?_
      refine x_getR dX0_man_96 fl438_5 rfl (by first | (exact ClL.k0 (by assumption)) | (assumption)) (by first | (exact ClL.f2 (by assumption)) | (assumption)) ?_
      refine x_iload_1 dX0_man_99 ?_
      refine x_iald_ dX0_man_100 (by first | (exact ClL.k3 (by assumption)) | (assumption)) (by first | (exact ClL.r3 (by assumption) (by omega) (by omega)) | (omega)) (fun r100 => ?_)
      simp (disch := omega) only [en] at r100 ⊢
      refine x_iret dX0_man_101 rfl ?_
      refine k0 _ ?_
      rw [mV]
      first | (rw [c26]; rfl) | (simp [*]; done) | ((repeat' split) <;> omega) | (unfold apa; (repeat' split) <;> omega)
    refine x_cs (3) (fun c26 => ?_) (fun c26_3 => ?_)
    · refine x_tableIn (off := 76) (tgt := 102) dX0_man_26 (by omega) (by omega) (by omega) (by rw [c26]; rfl) rfl ?_
      refine x_aload_0 dX0_man_102 ?_
      refine x_getR dX0_man_103 fl578_0 rfl (by first | (exact MkL.k0 (by assumption)) | (assumption)) (by first | (exact MkL.v_cloth (by assumption)) | (assumption)) ?_
      refine x_getR dX0_man_106 fl441_5 rfl (by first | (exact ClL.k0 (by assumption)) | (assumption)) (by first | (exact ClL.f3 (by assumption)) | (assumption)) ?_
      refine x_iload_1 dX0_man_109 ?_
      refine x_iald_ dX0_man_110 (by first | (exact ClL.k4 (by assumption)) | (assumption)) (by first | (exact ClL.r4 (by assumption) (by omega) (by omega)) | (omega)) (fun r110 => ?_)
      simp (disch := omega) only [el] at r110 ⊢
      refine x_aload_0 dX0_man_111 ?_
      refine x_getR dX0_man_112 fl578_0 rfl (by first | (exact MkL.k0 (by assumption)) | (assumption)) (by first | (exact MkL.v_cloth (by assumption)) | (assumption)) ?_
      refine x_getR dX0_man_115 fl438_5 rfl (by first | (exact ClL.k0 (by assumption)) | (assumption)) (by first | (exact ClL.f2 (by assumption)) | (assumption)) ?_
      refine x_iload_1 dX0_man_118 ?_
      refine x_iald_ dX0_man_119 (by first | (exact ClL.k3 (by assumption)) | (assumption)) (by first | (exact ClL.r3 (by assumption) (by omega) (by omega)) | (omega)) (fun r119 => ?_)
      simp (disch := omega) only [en] at r119 ⊢
      refine x_isub dX0_man_120 ?_
      refine x_iret dX0_man_121 rfl ?_
      refine k0 _ ?_
      rw [mV]
      first | (rw [c26]; rfl) | (simp [*]; done) | ((repeat' split) <;> omega) | (unfold apa; (repeat' split) <;> omega)
    refine x_cs (4) (fun c26 => ?_) (fun c26_4 => ?_)
    · refine x_tableIn (off := 96) (tgt := 122) dX0_man_26 (by omega) (by omega) (by omega) (by rw [c26]; rfl) rfl ?_
      refine x_aload_0 dX0_man_122 ?_
      refine x_getR dX0_man_123 fl578_0 rfl (by first | (exact MkL.k0 (by assumption)) | (assumption)) (by first | (exact MkL.v_cloth (by assumption)) | (assumption)) ?_
      refine x_iload_1 dX0_man_126 ?_
      refine x_callV1 dX0_man_127 rfl okX5_isLost q1206 q1207 q1208 (by first | assumption | (exact ClL.k0 (by assumption))) am_k5 rfl (C_X5_isLost hC.rc ⟨hm1.1, by omega⟩ (x_k1 ?_))
      refine x_if_eq (tgt := 137) dX0_man_130 rfl (by omega) (fun c130 => ?_) (fun c130 => ?_)
      · refine x_iconst dX0_man_137 ?_
        refine x_iret dX0_man_138 rfl ?_
        refine k0 _ ?_
        rw [mV]
        first | (rw [c26]; rfl) | (simp [*]; done) | ((repeat' split) <;> omega) | (unfold apa; (repeat' split) <;> omega)
      · refine x_iconst dX0_man_133 ?_
        refine x_goto (tgt := 138) dX0_man_134 rfl ?_
        refine x_iret dX0_man_138 rfl ?_
        refine k0 _ ?_
        rw [mV]
        first | (rw [c26]; rfl) | (simp [*]; done) | ((repeat' split) <;> omega) | (unfold apa; (repeat' split) <;> omega)
    refine x_cs (5) (fun c26 => ?_) (fun c26_5 => ?_)
    · refine x_tableIn (off := 113) (tgt := 139) dX0_man_26 (by omega) (by omega) (by omega) (by rw [c26]; rfl) rfl ?_
      refine x_aload_0 dX0_man_139 ?_
      refine x_getR dX0_man_140 fl578_0 rfl (by first | (exact MkL.k0 (by assumption)) | (assumption)) (by first | (exact MkL.v_cloth (by assumption)) | (assumption)) ?_
      refine x_getR dX0_man_143 fl432_5 rfl (by first | (exact ClL.k0 (by assumption)) | (assumption)) (by first | (exact ClL.f0 (by assumption)) | (assumption)) ?_
      refine x_iload_1 dX0_man_146 ?_
      refine x_iald_ dX0_man_147 (by first | (exact ClL.k1 (by assumption)) | (assumption)) (by first | (exact ClL.r1 (by assumption) (by omega) (by omega)) | (omega)) (fun r147 => ?_)
      simp (disch := omega) only [ex] at r147 ⊢
      refine x_aload_3 dX0_man_148 ?_
      refine x_getKI dX0_man_149 fl990_14 (by first | (exact ManL.k0 (by assumption)) | (assumption)) (by first | (exact ManL.x (by assumption)) | (assumption)) (fun r149 => ?_)
      refine x_isub dX0_man_152 ?_
      refine x_mabs dX0_man_153 q1210 q1211 q135 q1212 rfl (by omega) ?_
      refine x_aload_0 dX0_man_156 ?_
      refine x_getR dX0_man_157 fl578_0 rfl (by first | (exact MkL.k0 (by assumption)) | (assumption)) (by first | (exact MkL.v_cloth (by assumption)) | (assumption)) ?_
      refine x_getR dX0_man_160 fl434_5 rfl (by first | (exact ClL.k0 (by assumption)) | (assumption)) (by first | (exact ClL.f1 (by assumption)) | (assumption)) ?_
      refine x_iload_1 dX0_man_163 ?_
      refine x_iald_ dX0_man_164 (by first | (exact ClL.k2 (by assumption)) | (assumption)) (by first | (exact ClL.r2 (by assumption) (by omega) (by omega)) | (omega)) (fun r164 => ?_)
      simp (disch := omega) only [ey] at r164 ⊢
      refine x_aload_3 dX0_man_165 ?_
      refine x_getKI dX0_man_166 fl993_14 (by first | (exact ManL.k0 (by assumption)) | (assumption)) (by first | (exact ManL.y (by assumption)) | (assumption)) (fun r166 => ?_)
      refine x_isub dX0_man_169 ?_
      refine x_mabs dX0_man_170 q1210 q1211 q135 q1212 rfl (by omega) ?_
      refine x_iadd dX0_man_173 ?_
      refine x_iret dX0_man_174 rfl ?_
      refine k0 _ ?_
      rw [mV]
      first | (rw [c26]; rfl) | (simp [*]; done) | ((repeat' split) <;> omega) | (unfold apa; (repeat' split) <;> omega)
    refine x_cs (6) (fun c26 => ?_) (fun c26_6 => ?_)
    · refine x_tableIn (off := 149) (tgt := 175) dX0_man_26 (by omega) (by omega) (by omega) (by rw [c26]; rfl) rfl ?_
      refine x_aload_0 dX0_man_175 ?_
      refine x_getR dX0_man_176 fl578_0 rfl (by first | (exact MkL.k0 (by assumption)) | (assumption)) (by first | (exact MkL.v_cloth (by assumption)) | (assumption)) ?_
      refine x_aload_0 dX0_man_179 ?_
      refine x_getW dX0_man_180 fl574_0 rfl (by first | (exact MkL.k0 (by assumption)) | (assumption)) (by assumption) ?_
      refine x_iload_1 dX0_man_183 ?_
      refine x_iconst dX0_man_184 ?_
      refine x_callV3 dX0_man_185 rfl okX5_does q1213 q1214 q1215 (by first | assumption | (exact ClL.k0 (by assumption))) am_k5 rfl (C_X5_does hC.rc hT htx hm1 ⟨by decide, by decide⟩ ⟨by omega, by omega⟩ (by omega) ⟨by omega, by omega⟩ ⟨⟨by omega, by omega⟩, ⟨by omega, by omega⟩⟩ (fun h1 hf => (x_k1 ?_)))
      refine x_iret dX0_man_188 rfl ?_
      rw [show doesR T S m 0 = manV T S m w by rw [mV, c26]; rfl]
      exact k h1 (fun a i z => by rw [hf a (by omega) (by omega)])
    refine x_cs (7) (fun c26 => ?_) (fun c26_7 => ?_)
    · refine x_tableIn (off := 163) (tgt := 189) dX0_man_26 (by omega) (by omega) (by omega) (by rw [c26]; rfl) rfl ?_
      refine x_aload_3 dX0_man_189 ?_
      refine x_getKI dX0_man_190 fl996_14 (by first | (exact ManL.k0 (by assumption)) | (assumption)) (by first | (exact ManL.dye (by assumption)) | (assumption)) (fun r190 => ?_)
      refine x_iret dX0_man_193 rfl ?_
      refine k0 _ ?_
      rw [mV]
      first | (rw [c26]; rfl) | (simp [*]; done) | ((repeat' split) <;> omega) | (unfold apa; (repeat' split) <;> omega)
    refine x_tableOut (tgt := 194) dX0_man_26 (by omega) (by omega) rfl ?_
    refine x_iconst dX0_man_194 ?_
    refine x_iret dX0_man_195 rfl ?_
    refine k0 _ ?_
    rw [mV]
    first | (rw [c26]; rfl) | (simp [*]; done) | ((repeat' split) <;> omega) | (unfold apa; (repeat' split) <;> omega)
  · refine x_iconst dX0_man_8 ?_
    refine x_iret dX0_man_9 rfl ?_
    refine k0 _ ?_
    unfold manV
    rw [if_pos (by split at c5 <;> omega)]
set_option maxHeartbeats 4000000 in
theorem C_X13_man {m w : Int} (hC : TwT L h o s T S) (hT : TxtI T) (hI : RowI T S b q) (hb : b ≤ 90000) (hm : rg32 m) (hw : rg32 w) (k : ∀ h', FrW h h' o → Q (.inl [aI (manV T S m w)]) L h') : am_C G mX13_man (d + 12) [aR o, aI m, aI w] L h Q := by
  have hM := hC.1
  have hL := hM.1
  have hM7 := hT.1
  refine x_start okX13_man rfl rfl rfl rfl ?_
  refine x_aload_0 dX13_man_0 ?_
  refine x_iload_1 dX13_man_1 ?_
  refine x_callV1 dX13_man_2 rfl okX13_isMan q1927 q1929 qs80 (by first | assumption | (exact MdL.k0 (by assumption))) am_k13 rfl (C_X13_isMan hM hT hm (x_k1 ?_))
  refine x_if_ne (tgt := 10) dX13_man_5 rfl (by split <;> omega) (fun c5 => ?_) (fun c5 => ?_)
  · have hm1 : 0 ≤ m ∧ m < tM T := by split at c5 <;> omega
    have b01 := bt_01 (rL S) m
    have bl := lng_bd hT m
    have bn := (hI.1 m hm1.1 (by omega)).1
    have bx := (hI.2.1 m hm1.1 hm1.2).1
    have bm := hI.2.2.2.2.2.2.1
    unfold inT at bx
    have bw := hT.2.1
    have bd := hT.2.2.1
    have bdo := (hT.2.2.2.2.2.1 m hm1.1 hm1.2).1
    unfold inT at bdo
    have mV : manV T S m w = if w = 0 then rX S m else if w = 1 then rY S m else if w = 2 then rN S m else if w = 3 then lng T m - rN S m else if w = 4 then bt (rL S) m else if w = 5 then apa (rX S m) (tDX T m) + apa (rY S m) (tDY T m) else if w = 6 then doesR T S m 0 else if w = 7 then tDye T m else -1 := by
      unfold manV
      rw [if_neg (by omega)]
    refine x_aload_0 dX13_man_10 ?_
    refine x_callV0 dX13_man_11 rfl okX13_copies q1934 q1936 qs81 (by first | assumption | (exact MdL.k0 (by assumption))) am_k13 rfl (C_X13_copiesR hL hC.2 hI hT (fun h1 e1 f1 e2 e3 => (x_k0 ?_)))
    have hM1 := hM.fr f1
    have e20 := e2
    obtain ⟨rn, rx, -, -, -⟩ := e2
    obtain ⟨en, eb⟩ := rn m hm1.1 (by omega)
    obtain ⟨ex, ey⟩ := rx m hm1.1 hm1.2
    obtain ⟨dx, dy, dd, -⟩ := hM1.2.2.2.2.2.2.2.2.1 m hm1.1 hm1.2
    have hlv := hM1.2.2.1
    have hs := hM1.2.1
    have e30 := e3 m hm1.1 (by omega)
    have k0 : ∀ v, v = manV T S m w → Q (.inl [aI v]) L h1 := fun v e => by rw [e]; exact k h1 f1
    refine x_iload_2 dX13_man_14 ?_
    refine x_cs (0) (fun c15 => ?_) (fun c15_0 => ?_)
    · refine x_tableIn (off := 45) (tgt := 60) dX13_man_15 (by omega) (by omega) (by omega) (by rw [c15]; rfl) rfl ?_
      refine x_aload_0 dX13_man_60 ?_
      refine x_getR dX13_man_61 fl1630_13 rfl (by first | (exact MdL.k0 (by assumption)) | (assumption)) (by first | (exact MdL.v_row (by assumption)) | (assumption)) ?_
      refine x_iload_1 dX13_man_64 ?_
      refine x_iald_ dX13_man_65 (by first | (exact MdL.k_row (by assumption)) | (assumption)) (by first | (exact MdL.x_row (by assumption) (by omega) (by omega)) | (omega)) (fun r65 => ?_)
      simp (disch := omega) only [ex, ey, en, eb] at r65 ⊢
      refine x_iret dX13_man_66 rfl ?_
      refine k0 _ ?_
      rw [mV]
      first | (rw [c15]; rfl) | (simp [*]; done) | ((repeat' split) <;> omega) | (unfold apa; (repeat' split) <;> omega)
    refine x_cs (1) (fun c15 => ?_) (fun c15_1 => ?_)
    · refine x_tableIn (off := 52) (tgt := 67) dX13_man_15 (by omega) (by omega) (by omega) (by rw [c15]; rfl) rfl ?_
      refine x_aload_0 dX13_man_67 ?_
      refine x_getR dX13_man_68 fl1630_13 rfl (by first | (exact MdL.k0 (by assumption)) | (assumption)) (by first | (exact MdL.v_row (by assumption)) | (assumption)) ?_
      refine x_bipush dX13_man_71 rfl ?_
      refine x_iload_1 dX13_man_73 ?_
      refine x_iadd dX13_man_74 ?_
      refine x_iald_ dX13_man_75 (by first | (exact MdL.k_row (by assumption)) | (assumption)) (by first | (exact MdL.x_row (by assumption) (by omega) (by omega)) | (omega)) (fun r75 => ?_)
      simp (disch := omega) only [ex, ey, en, eb] at r75 ⊢
      refine x_iret dX13_man_76 rfl ?_
      refine k0 _ ?_
      rw [mV]
      first | (rw [c15]; rfl) | (simp [*]; done) | ((repeat' split) <;> omega) | (unfold apa; (repeat' split) <;> omega)
    refine x_cs (2) (fun c15 => ?_) (fun c15_2 => ?_)
    · refine x_tableIn (off := 62) (tgt := 77) dX13_man_15 (by omega) (by omega) (by omega) (by rw [c15]; rfl) rfl ?_
      refine x_aload_0 dX13_man_77 ?_
      refine x_getR dX13_man_78 fl1630_13 rfl (by first | (exact MdL.k0 (by assumption)) | (assumption)) (by first | (exact MdL.v_row (by assumption)) | (assumption)) ?_
      refine x_bipush dX13_man_81 rfl ?_
      refine x_iload_1 dX13_man_83 ?_
      refine x_iadd dX13_man_84 ?_
      refine x_iald_ dX13_man_85 (by first | (exact MdL.k_row (by assumption)) | (assumption)) (by first | (exact MdL.x_row (by assumption) (by omega) (by omega)) | (omega)) (fun r85 => ?_)
      simp (disch := omega) only [ex, ey, en, eb] at r85 ⊢
      refine x_iret dX13_man_86 rfl ?_
      refine k0 _ ?_
      rw [mV]
      first | (rw [c15]; rfl) | (simp [*]; done) | ((repeat' split) <;> omega) | (unfold apa; (repeat' split) <;> omega)
    refine x_cs (3) (fun c15 => ?_) (fun c15_3 => ?_)
    · refine x_tableIn (off := 72) (tgt := 87) dX13_man_15 (by omega) (by omega) (by omega) (by rw [c15]; rfl) rfl ?_
      refine x_aload_0 dX13_man_87 ?_
      refine x_iload_1 dX13_man_88 ?_
      refine x_callV1 dX13_man_89 rfl okX13_leftOf q1938 q1940 qs82 (by first | assumption | (exact MdL.k0 (by assumption))) am_k13 rfl (C_X13_leftOf hM1 hT hm1 e20 (fun h2 f2 => (x_k1 ?_)))
      refine x_iret dX13_man_92 rfl ?_
      rw [show lng T m - rN S m = manV T S m w by rw [mV, c15]; rfl]
      exact k h2 (f1.tr f2.w)
    refine x_cs (4) (fun c15 => ?_) (fun c15_4 => ?_)
    · refine x_tableIn (off := 78) (tgt := 93) dX13_man_15 (by omega) (by omega) (by omega) (by rw [c15]; rfl) rfl ?_
      refine x_aload_0 dX13_man_93 ?_
      refine x_getR dX13_man_94 fl1630_13 rfl (by first | (exact MdL.k0 (by assumption)) | (assumption)) (by first | (exact MdL.v_row (by assumption)) | (assumption)) ?_
      refine x_bipush dX13_man_97 rfl ?_
      refine x_iload_1 dX13_man_99 ?_
      refine x_iadd dX13_man_100 ?_
      refine x_iald_ dX13_man_101 (by first | (exact MdL.k_row (by assumption)) | (assumption)) (by first | (exact MdL.x_row (by assumption) (by omega) (by omega)) | (omega)) (fun r101 => ?_)
      simp (disch := omega) only [ex, ey, en, eb] at r101 ⊢
      refine x_iret dX13_man_102 rfl ?_
      refine k0 _ ?_
      rw [mV]
      first | (rw [c15]; rfl) | (simp [*]; done) | ((repeat' split) <;> omega) | (unfold apa; (repeat' split) <;> omega)
    refine x_cs (5) (fun c15 => ?_) (fun c15_5 => ?_)
    · refine x_tableIn (off := 88) (tgt := 103) dX13_man_15 (by omega) (by omega) (by omega) (by rw [c15]; rfl) rfl ?_
      refine x_aload_0 dX13_man_103 ?_
      refine x_getR dX13_man_104 fl1630_13 rfl (by first | (exact MdL.k0 (by assumption)) | (assumption)) (by first | (exact MdL.v_row (by assumption)) | (assumption)) ?_
      refine x_iload_1 dX13_man_107 ?_
      refine x_iald_ dX13_man_108 (by first | (exact MdL.k_row (by assumption)) | (assumption)) (by first | (exact MdL.x_row (by assumption) (by omega) (by omega)) | (omega)) (fun r108 => ?_)
      simp (disch := omega) only [ex, ey, en, eb] at r108 ⊢
      refine x_aload_0 dX13_man_109 ?_
      refine x_getR dX13_man_110 fl1599_13 rfl (by first | (exact MdL.k0 (by assumption)) | (assumption)) (by first | (exact MdL.v_doorX (by assumption)) | (assumption)) ?_
      refine x_bipush dX13_man_113 rfl ?_
      refine x_aload_0 dX13_man_115 ?_
      refine x_getI_ dX13_man_116 fl1592_13 (by first | (exact MdL.k0 (by assumption)) | (assumption)) (fun r116 => ?_)
      rw [hlv] at r116 ⊢
      refine x_imul dX13_man_119 ?_
      refine x_iload_1 dX13_man_120 ?_
      refine x_iadd dX13_man_121 ?_
      refine x_iald_ dX13_man_122 (by first | (exact MdL.k_doorX (by assumption)) | (assumption)) (by first | (exact MdL.x_doorX (by assumption) (by omega) (by omega)) | (omega)) (fun r122 => ?_)
      rw [dx] at r122 ⊢
      refine x_callS2 dX13_man_123 rfl okX13_apart q1954 q1955 rfl (C_X13_apart ⟨by omega, by omega⟩ ⟨by omega, by omega⟩ (x_k1 ?_))
      refine x_aload_0 dX13_man_126 ?_
      refine x_getR dX13_man_127 fl1630_13 rfl (by first | (exact MdL.k0 (by assumption)) | (assumption)) (by first | (exact MdL.v_row (by assumption)) | (assumption)) ?_
      refine x_bipush dX13_man_130 rfl ?_
      refine x_iload_1 dX13_man_132 ?_
      refine x_iadd dX13_man_133 ?_
      refine x_iald_ dX13_man_134 (by first | (exact MdL.k_row (by assumption)) | (assumption)) (by first | (exact MdL.x_row (by assumption) (by omega) (by omega)) | (omega)) (fun r134 => ?_)
      simp (disch := omega) only [ex, ey, en, eb] at r134 ⊢
      refine x_aload_0 dX13_man_135 ?_
      refine x_getR dX13_man_136 fl1600_13 rfl (by first | (exact MdL.k0 (by assumption)) | (assumption)) (by first | (exact MdL.v_doorY (by assumption)) | (assumption)) ?_
      refine x_bipush dX13_man_139 rfl ?_
      refine x_aload_0 dX13_man_141 ?_
      refine x_getI_ dX13_man_142 fl1592_13 (by first | (exact MdL.k0 (by assumption)) | (assumption)) (fun r142 => ?_)
      rw [hlv] at r142 ⊢
      refine x_imul dX13_man_145 ?_
      refine x_iload_1 dX13_man_146 ?_
      refine x_iadd dX13_man_147 ?_
      refine x_iald_ dX13_man_148 (by first | (exact MdL.k_doorY (by assumption)) | (assumption)) (by first | (exact MdL.x_doorY (by assumption) (by omega) (by omega)) | (omega)) (fun r148 => ?_)
      rw [dy] at r148 ⊢
      refine x_callS2 dX13_man_149 rfl okX13_apart q1954 q1955 rfl (C_X13_apart ⟨by omega, by omega⟩ ⟨by omega, by omega⟩ (x_k1 ?_))
      refine x_iadd dX13_man_152 ?_
      refine x_iret dX13_man_153 rfl ?_
      refine k0 _ ?_
      rw [mV]
      first | (rw [c15]; rfl) | (simp [*]; done) | ((repeat' split) <;> omega) | (unfold apa; (repeat' split) <;> omega)
    refine x_cs (6) (fun c15 => ?_) (fun c15_6 => ?_)
    · refine x_tableIn (off := 139) (tgt := 154) dX13_man_15 (by omega) (by omega) (by omega) (by rw [c15]; rfl) rfl ?_
      refine x_aload_0 dX13_man_154 ?_
      refine x_getR dX13_man_155 fl1630_13 rfl (by first | (exact MdL.k0 (by assumption)) | (assumption)) (by first | (exact MdL.v_row (by assumption)) | (assumption)) ?_
      refine x_bipush dX13_man_158 rfl ?_
      refine x_iload_1 dX13_man_160 ?_
      refine x_iadd dX13_man_161 ?_
      refine x_iald_ dX13_man_162 (by first | (exact MdL.k_row (by assumption)) | (assumption)) (by first | (exact MdL.x_row (by assumption) (by omega) (by omega)) | (omega)) (fun r162 => ?_)
      simp (disch := omega) only [ex, ey, en, eb] at r162 ⊢
      refine x_iconst dX13_man_163 ?_
      refine x_icmp_ne (tgt := 171) dX13_man_164 rfl (by omega) (by omega) (fun c164 => ?_) (fun c164 => ?_)
      · refine x_aload_0 dX13_man_171 ?_
        refine x_iload_1 dX13_man_172 ?_
        refine x_callV1 dX13_man_173 rfl okX13_goesOf q1957 q1959 qs86 (by first | assumption | (exact MdL.k0 (by assumption))) am_k13 rfl (C_X13_goesOf hM1 hT hm1 e20 hI (by omega) e30 ⟨by omega, by omega⟩ (by omega) (fun h2 f2 => (x_k1 ?_)))
        refine x_iret dX13_man_176 rfl ?_
        first | (rw [show doesR T S m 0 = manV T S m w by rw [mV, c15]; rfl]; exact k h2 (f1.tr f2.w)) | (refine k0 _ ?_; rw [mV, c15, doesR_lost (by omega)]; rfl)
      · refine x_iconst dX13_man_167 ?_
        refine x_goto (tgt := 176) dX13_man_168 rfl ?_
        refine x_iret dX13_man_176 rfl ?_
        first | (rw [show doesR T S m 0 = manV T S m w by rw [mV, c15]; rfl]; exact k h2 (f1.tr f2.w)) | (refine k0 _ ?_; rw [mV, c15, doesR_lost (by omega)]; rfl)
    refine x_cs (7) (fun c15 => ?_) (fun c15_7 => ?_)
    · refine x_tableIn (off := 162) (tgt := 177) dX13_man_15 (by omega) (by omega) (by omega) (by rw [c15]; rfl) rfl ?_
      refine x_aload_0 dX13_man_177 ?_
      refine x_getR dX13_man_178 fl1601_13 rfl (by first | (exact MdL.k0 (by assumption)) | (assumption)) (by first | (exact MdL.v_dyeOf (by assumption)) | (assumption)) ?_
      refine x_bipush dX13_man_181 rfl ?_
      refine x_aload_0 dX13_man_183 ?_
      refine x_getI_ dX13_man_184 fl1592_13 (by first | (exact MdL.k0 (by assumption)) | (assumption)) (fun r184 => ?_)
      rw [hlv] at r184 ⊢
      refine x_imul dX13_man_187 ?_
      refine x_iload_1 dX13_man_188 ?_
      refine x_iadd dX13_man_189 ?_
      refine x_iald_ dX13_man_190 (by first | (exact MdL.k_dyeOf (by assumption)) | (assumption)) (by first | (exact MdL.x_dyeOf (by assumption) (by omega) (by omega)) | (omega)) (fun r190 => ?_)
      rw [dd] at r190 ⊢
      refine x_iret dX13_man_191 rfl ?_
      refine k0 _ ?_
      rw [mV]
      first | (rw [c15]; rfl) | (simp [*]; done) | ((repeat' split) <;> omega) | (unfold apa; (repeat' split) <;> omega)
    refine x_tableOut (tgt := 192) dX13_man_15 (by omega) (by omega) rfl ?_
    refine x_iconst dX13_man_192 ?_
    refine x_iret dX13_man_193 rfl ?_
    refine k0 _ ?_
    rw [mV]
    first | (rw [c15]; rfl) | (simp [*]; done) | ((repeat' split) <;> omega) | (unfold apa; (repeat' split) <;> omega)
  · refine x_iconst dX13_man_8 ?_
    refine x_iret dX13_man_9 rfl ?_
    rw [show (-1 : Int) = manV T S m w by unfold manV; rw [if_pos (by split at c5 <;> omega)]]
    exact k h (FrW.rf h o)
noncomputable def pieceV (T : Txt) (S : Row) (m i what : Int) : Int := by
  classical exact if ¬ (0 ≤ m ∧ m < tM T) ∨ ¬ (0 ≤ i ∧ i < rN S m) then -1 else if what = 0 then rW S m i else if what = 1 then othR S (tM T) (rS S m i) (rT S m i) 0 else if what = 2 then othR S (tM T) (rS S m i) (rT S m i) 1 else -1
set_option maxHeartbeats 4000000 in
theorem C_X0_piece {m i w : Int} (hC : CoT L h x t T S) (hT : TxtI T) (hI : RowI T S b q) (hm : rg32 m) (hi : rg32 i) (hw : rg32 w) (k : Q (.inl [aI (pieceV T S m i w)]) L h) : am_C G mX0_piece (d + 430) [aR x, aI m, aI i, aI w] L h Q := by
  have hK := hC.mk
  have htx := hC.tx
  have hht := hC.ht
  have hcl := hC.cl
  have hrc := hC.rc
  have hM := hT.1
  have k0 : ∀ v, v = pieceV T S m i w → Q (.inl [aI v]) L h := fun v e => by rw [e]; exact k
  refine x_start okX0_piece rfl rfl rfl rfl ?_
  refine x_aload_0 dX0_piece_0 ?_
  refine x_iload_1 dX0_piece_1 ?_
  refine x_callV1 dX0_piece_2 rfl okX0_isMan q1192 q1194 qs32 (by first | assumption | (exact MkL.k0 (by assumption))) am_k0 rfl (C_X0_isMan hC hT hm (x_k1 ?_))
  refine x_if_eq (tgt := 27) dX0_piece_5 rfl (by split <;> omega) (fun c5 => ?_) (fun c5 => ?_)
  · skip
    refine x_iconst dX0_piece_27 ?_
    refine x_iret dX0_piece_28 rfl ?_
    refine k0 _ ?_
    unfold pieceV
    rw [if_pos (by split at c5 <;> first | omega | (split at c24 <;> omega))]
  · have hm1 : 0 ≤ m ∧ m < tM T := by split at c5 <;> omega
    obtain ⟨-, rn, rx, rk, -, -, -⟩ := hrc
    have en := rn m hm1.1 (by omega)
    have bl := hI.n60 hT m hm1.1 (by omega)
    refine x_iload_2 dX0_piece_8 ?_
    refine x_iconst dX0_piece_9 ?_
    refine x_aload_0 dX0_piece_10 ?_
    refine x_getR dX0_piece_11 fl578_0 rfl (by first | (exact MkL.k0 (by assumption)) | (assumption)) (by first | (exact MkL.v_cloth (by assumption)) | (assumption)) ?_
    refine x_getR dX0_piece_14 fl438_5 rfl (by first | (exact ClL.k0 (by assumption)) | (assumption)) (by first | (exact ClL.f2 (by assumption)) | (assumption)) ?_
    refine x_iload_1 dX0_piece_17 ?_
    refine x_iald_ dX0_piece_18 (by first | (exact ClL.k3 (by assumption)) | (assumption)) (by first | (exact ClL.r3 (by assumption) (by omega) (by omega)) | (omega)) (fun r18 => ?_)
    simp (disch := omega) only [en] at r18 ⊢
    refine x_iconst dX0_piece_19 ?_
    refine x_isub dX0_piece_20 ?_
    refine x_callS3 dX0_piece_21 rfl okX0_isIn q1201 q1202 rfl (C_X0_isIn hi ⟨by omega, by omega⟩ ⟨by omega, by omega⟩ (x_k1 ?_))
    refine x_if_ne (tgt := 29) dX0_piece_24 rfl (by split <;> omega) (fun c24 => ?_) (fun c24 => ?_)
    · have hi1 : 0 ≤ i ∧ i < rN S m := by split at c24 <;> omega
      obtain ⟨e1, -, -⟩ := rk m i hm1.1 (by omega) hi1.1 hi1.2
      have mV : pieceV T S m i w = if w = 0 then rW S m i else if w = 1 then othR S (tM T) (rS S m i) (rT S m i) 0 else if w = 2 then othR S (tM T) (rS S m i) (rT S m i) 1 else -1 := by
        unfold pieceV
        rw [if_neg (by omega)]
      refine x_iload_3 dX0_piece_29 ?_
      refine x_cs (0) (fun c30 => ?_) (fun c30_0 => ?_)
      · refine x_tableIn (off := 26) (tgt := 56) dX0_piece_30 (by omega) (by omega) (by omega) (by rw [c30]; rfl) rfl ?_
        refine x_aload_0 dX0_piece_56 ?_
        refine x_getR dX0_piece_57 fl578_0 rfl (by first | (exact MkL.k0 (by assumption)) | (assumption)) (by first | (exact MkL.v_cloth (by assumption)) | (assumption)) ?_
        refine x_getR dX0_piece_60 fl443_5 rfl (by first | (exact ClL.k0 (by assumption)) | (assumption)) (by first | (exact ClL.f4 (by assumption)) | (assumption)) ?_
        refine x_iload_1 dX0_piece_63 ?_
        refine x_aald dX0_piece_64 (by first | (exact ClL.k5 (by assumption)) | (assumption)) (by decide) (by decide) (by first | (exact ClL.r5 (by assumption) (by omega) (by omega)) | (omega)) (by first | (exact ClL.fw (by assumption) (by omega) (by omega)) | (assumption)) ?_
        refine x_iload_2 dX0_piece_65 ?_
        refine x_iald_ dX0_piece_66 (by first | (exact ClL.kw (by assumption) (by omega) (by omega)) | (assumption)) (by first | (exact ClL.rw (by assumption) (by omega) (by omega) (by omega) (by omega)) | (omega)) (fun r66 => ?_)
        refine x_iret dX0_piece_67 rfl ?_
        refine k0 _ ?_
        rw [mV]
        first | (rw [c30]; rfl) | (simp [*]; done) | ((repeat' split) <;> omega)
      refine x_cs (1) (fun c30 => ?_) (fun c30_1 => ?_)
      · refine x_tableIn (off := 38) (tgt := 68) dX0_piece_30 (by omega) (by omega) (by omega) (by rw [c30]; rfl) rfl ?_
        refine x_aload_0 dX0_piece_68 ?_
        refine x_getR dX0_piece_69 fl578_0 rfl (by first | (exact MkL.k0 (by assumption)) | (assumption)) (by first | (exact MkL.v_cloth (by assumption)) | (assumption)) ?_
        refine x_iload_1 dX0_piece_72 ?_
        refine x_iload_2 dX0_piece_73 ?_
        refine x_iconst dX0_piece_74 ?_
        refine x_callV3 dX0_piece_75 rfl okX5_around q1229 q1230 q1231 (by first | assumption | (exact ClL.k0 (by assumption))) am_k5 rfl (C_around hC.rc hI hT hm1 hi1 ⟨by decide, by decide⟩ (x_k1 ?_))
        refine x_iret dX0_piece_78 rfl ?_
        refine k0 _ ?_
        rw [mV]
        first | (rw [c30]; rfl) | (simp [*]; done) | ((repeat' split) <;> omega)
      refine x_cs (2) (fun c30 => ?_) (fun c30_2 => ?_)
      · refine x_tableIn (off := 49) (tgt := 79) dX0_piece_30 (by omega) (by omega) (by omega) (by rw [c30]; rfl) rfl ?_
        refine x_aload_0 dX0_piece_79 ?_
        refine x_getR dX0_piece_80 fl578_0 rfl (by first | (exact MkL.k0 (by assumption)) | (assumption)) (by first | (exact MkL.v_cloth (by assumption)) | (assumption)) ?_
        refine x_iload_1 dX0_piece_83 ?_
        refine x_iload_2 dX0_piece_84 ?_
        refine x_iconst dX0_piece_85 ?_
        refine x_callV3 dX0_piece_86 rfl okX5_around q1229 q1230 q1231 (by first | assumption | (exact ClL.k0 (by assumption))) am_k5 rfl (C_around hC.rc hI hT hm1 hi1 ⟨by decide, by decide⟩ (x_k1 ?_))
        refine x_iret dX0_piece_89 rfl ?_
        refine k0 _ ?_
        rw [mV]
        first | (rw [c30]; rfl) | (simp [*]; done) | ((repeat' split) <;> omega)
      refine x_tableOut (tgt := 90) dX0_piece_30 (by omega) (by omega) rfl ?_
      refine x_iconst dX0_piece_90 ?_
      refine x_iret dX0_piece_91 rfl ?_
      refine k0 _ ?_
      rw [mV]
      first | (rw [c30]; rfl) | (simp [*]; done) | ((repeat' split) <;> omega)
    · skip
      refine x_iconst dX0_piece_27 ?_
      refine x_iret dX0_piece_28 rfl ?_
      refine k0 _ ?_
      unfold pieceV
      rw [if_pos (by split at c24 <;> omega)]
set_option maxHeartbeats 4000000 in
theorem C_X13_piece {m i w : Int} (hC : TwT L h o s T S) (hT : TxtI T) (hI : RowI T S b q) (hq : q ≤ 100000) (hm : rg32 m) (hi : rg32 i) (hw : rg32 w) (k : ∀ h', FrW h h' o → Q (.inl [aI (pieceV T S m i w)]) L h') : am_C G mX13_piece (d + 12) [aR o, aI m, aI i, aI w] L h Q := by
  have hM := hC.1
  have hL := hM.1
  have hM7 := hT.1
  have hnow := hC.2
  have bq := hI.2.2.2.2.2.2.2
  have k0 : ∀ v, v = pieceV T S m i w → Q (.inl [aI v]) L h := fun v e => by rw [e]; exact k h (FrW.rf h o)
  refine x_start okX13_piece rfl rfl rfl rfl ?_
  refine x_aload_0 dX13_piece_0 ?_
  refine x_iload_1 dX13_piece_1 ?_
  refine x_callV1 dX13_piece_2 rfl okX13_isMan q1927 q1929 qs80 (by first | assumption | (exact MdL.k0 (by assumption))) am_k13 rfl (C_X13_isMan hM hT hm (x_k1 ?_))
  refine x_if_eq (tgt := 36) dX13_piece_5 rfl (by split <;> omega) (fun c5 => ?_) (fun c5 => ?_)
  · skip
    refine x_iconst dX13_piece_36 ?_
    refine x_iret dX13_piece_37 rfl ?_
    refine k0 _ ?_
    unfold pieceV
    rw [if_pos (by split at c5 <;> omega)]
  · have hm1 : 0 ≤ m ∧ m < tM T := by split at c5 <;> omega
    have en := (hnow.1 m hm1.1 (by omega)).1
    have bl := hI.n60 hT m hm1.1 (by omega)
    refine x_iload_2 dX13_piece_8 ?_
    refine x_iconst dX13_piece_9 ?_
    refine x_aload_0 dX13_piece_10 ?_
    refine x_getR dX13_piece_11 fl1629_13 rfl (by first | (exact MdL.k0 (by assumption)) | (assumption)) (by first | (exact MdL.v_now (by assumption)) | (assumption)) ?_
    refine x_bipush dX13_piece_14 rfl ?_
    refine x_iload_1 dX13_piece_16 ?_
    refine x_iadd dX13_piece_17 ?_
    refine x_iald_ dX13_piece_18 (by first | (exact MdL.k_now (by assumption)) | (assumption)) (by first | (exact MdL.x_now (by assumption) (by omega) (by omega)) | (omega)) (fun r18 => ?_)
    simp (disch := omega) only [en] at r18 ⊢
    refine x_iconst dX13_piece_19 ?_
    refine x_isub dX13_piece_20 ?_
    refine x_callS3 dX13_piece_21 rfl okX13_in q1931 q1932 rfl (C_X13_in hi ⟨by omega, by omega⟩ ⟨by omega, by omega⟩ (x_k1 ?_))
    refine x_if_eq (tgt := 36) dX13_piece_24 rfl (by split <;> omega) (fun c24 => ?_) (fun c24 => ?_)
    · skip
      refine x_iconst dX13_piece_36 ?_
      refine x_iret dX13_piece_37 rfl ?_
      refine k0 _ ?_
      unfold pieceV
      by_cases z : 0 ≤ i ∧ i < rN S m
      · first | (exfalso; split at c24 <;> omega) | rw [if_neg (by omega), if_neg (by split at c33 <;> omega), if_neg (by split at c33 <;> omega), if_neg (by split at c33 <;> omega)]
      · rw [if_pos (by omega)]
    · refine x_iload_3 dX13_piece_27 ?_
      refine x_iconst dX13_piece_28 ?_
      refine x_iconst dX13_piece_29 ?_
      refine x_callS3 dX13_piece_30 rfl okX13_in q1931 q1932 rfl (C_X13_in hw ⟨by omega, by omega⟩ ⟨by omega, by omega⟩ (x_k1 ?_))
      refine x_if_ne (tgt := 38) dX13_piece_33 rfl (by split <;> omega) (fun c33 => ?_) (fun c33 => ?_)
      · have hi1 : 0 ≤ i ∧ i < rN S m := by split at c24 <;> omega
        have hw1 : 0 ≤ w ∧ w ≤ 2 := by split at c33 <;> omega
        have mV : pieceV T S m i w = if w = 0 then rW S m i else if w = 1 then othR S (tM T) (rS S m i) (rT S m i) 0 else if w = 2 then othR S (tM T) (rS S m i) (rT S m i) 1 else -1 := by
          unfold pieceV
          rw [if_neg (by omega)]
        have bs := hI.st hT m i hm1.1 hm1.2 hi1.1 hi1.2
        have bs2 := s2_bd bs
        have hp := hI.2.2.1 m i hm1.1 hm1.2 hi1.1 hi1.2
        refine x_aload_0 dX13_piece_38 ?_
        refine x_callV0 dX13_piece_39 rfl okX13_copies q1934 q1936 qs81 (by first | assumption | (exact MdL.k0 (by assumption))) am_k13 rfl (C_X13_copiesR hL hC.2 hI hT (fun h1 e1 f1 e2 e3 => (x_k0 ?_)))
        have hM1 := hM.fr f1
        have k1 : ∀ v, v = pieceV T S m i w → Q (.inl [aI v]) L h1 := fun v e => by rw [e]; exact k h1 f1
        obtain ⟨ew, et, es⟩ := e2.2.2.1 m i hm1.1 (by omega) hi1.1 hi1.2
        refine x_bipush dX13_piece_42 rfl ?_
        refine x_iload_1 dX13_piece_44 ?_
        refine x_imul dX13_piece_45 ?_
        refine x_iload_2 dX13_piece_46 ?_
        refine x_iadd dX13_piece_47 ?_
        refine x_istore4 dX13_piece_48 rfl ?_
        refine x_iload_3 dX13_piece_50 ?_
        refine x_if_ne (tgt := 67) dX13_piece_51 rfl (by omega) (fun c51 => ?_) (fun c51 => ?_)
        · refine x_aload_0 dX13_piece_67 ?_
          refine x_aload_0 dX13_piece_68 ?_
          refine x_getR dX13_piece_69 fl1630_13 rfl (by first | (exact MdL.k0 (by assumption)) | (assumption)) (by first | (exact MdL.v_row (by assumption)) | (assumption)) ?_
          refine x_sipush dX13_piece_72 rfl ?_
          refine x_iload4 dX13_piece_75 ?_
          refine x_iadd dX13_piece_77 ?_
          refine x_iald_ dX13_piece_78 (by first | (exact MdL.k_row (by assumption)) | (assumption)) (by first | (exact MdL.x_row (by assumption) (by omega) (by omega)) | (omega)) (fun r78 => ?_)
          simp (disch := omega) only [ew, et, es] at r78 ⊢
          refine x_aload_0 dX13_piece_79 ?_
          refine x_getR dX13_piece_80 fl1630_13 rfl (by first | (exact MdL.k0 (by assumption)) | (assumption)) (by first | (exact MdL.v_row (by assumption)) | (assumption)) ?_
          refine x_sipush dX13_piece_83 rfl ?_
          refine x_iload4 dX13_piece_86 ?_
          refine x_iadd dX13_piece_88 ?_
          refine x_iald_ dX13_piece_89 (by first | (exact MdL.k_row (by assumption)) | (assumption)) (by first | (exact MdL.x_row (by assumption) (by omega) (by omega)) | (omega)) (fun r89 => ?_)
          simp (disch := omega) only [ew, et, es] at r89 ⊢
          refine x_iload_3 dX13_piece_90 ?_
          refine x_iconst dX13_piece_91 ?_
          refine x_icmp_ne (tgt := 99) dX13_piece_92 rfl (by omega) (by omega) (fun c92 => ?_) (fun c92 => ?_)
          · refine x_iconst dX13_piece_99 ?_
            refine x_callV3 dX13_piece_100 rfl okX13_others q1972 q1974 qs87 (by first | assumption | (exact MdL.k0 (by assumption))) am_k13 rfl (C_X13_others (S := S) (sv := rS S m i) hM1 hT e2 (hI.n60 hT) (fun m' k' z0 z1 z2 z3 => ⟨fun z => s2_inj (hI.st hT m' k' z0 z1 z2 z3) bs z, fun z => by rw [z]⟩) ⟨by omega, by omega⟩ ⟨by omega, by omega⟩ ⟨by decide, by decide⟩ (x_k1 ?_))
            refine x_iret dX13_piece_103 rfl ?_
            refine k1 _ ?_
            rw [mV]
            first | (rw [if_pos (by omega)]; done) | (rw [if_neg (by omega), if_pos (by omega)]; done) | (rw [if_neg (by omega), if_neg (by omega), if_pos (by omega)]; done)
          · refine x_iconst dX13_piece_95 ?_
            refine x_goto (tgt := 100) dX13_piece_96 rfl ?_
            refine x_callV3 dX13_piece_100 rfl okX13_others q1972 q1974 qs87 (by first | assumption | (exact MdL.k0 (by assumption))) am_k13 rfl (C_X13_others (S := S) (sv := rS S m i) hM1 hT e2 (hI.n60 hT) (fun m' k' z0 z1 z2 z3 => ⟨fun z => s2_inj (hI.st hT m' k' z0 z1 z2 z3) bs z, fun z => by rw [z]⟩) ⟨by omega, by omega⟩ ⟨by omega, by omega⟩ ⟨by decide, by decide⟩ (x_k1 ?_))
            refine x_iret dX13_piece_103 rfl ?_
            refine k1 _ ?_
            rw [mV]
            first | (rw [if_pos (by omega)]; done) | (rw [if_neg (by omega), if_pos (by omega)]; done) | (rw [if_neg (by omega), if_neg (by omega), if_pos (by omega)]; done)
        · refine x_aload_0 dX13_piece_54 ?_
          refine x_getR dX13_piece_55 fl1630_13 rfl (by first | (exact MdL.k0 (by assumption)) | (assumption)) (by first | (exact MdL.v_row (by assumption)) | (assumption)) ?_
          refine x_bipush dX13_piece_58 rfl ?_
          refine x_iload4 dX13_piece_60 ?_
          refine x_iadd dX13_piece_62 ?_
          refine x_iald_ dX13_piece_63 (by first | (exact MdL.k_row (by assumption)) | (assumption)) (by first | (exact MdL.x_row (by assumption) (by omega) (by omega)) | (omega)) (fun r63 => ?_)
          simp (disch := omega) only [ew, et, es] at r63 ⊢
          refine x_goto (tgt := 103) dX13_piece_64 rfl ?_
          refine x_iret dX13_piece_103 rfl ?_
          refine k1 _ ?_
          rw [mV]
          first | (rw [if_pos (by omega)]; done) | (rw [if_neg (by omega), if_pos (by omega)]; done) | (rw [if_neg (by omega), if_neg (by omega), if_pos (by omega)]; done)
      · skip
        refine x_iconst dX13_piece_36 ?_
        refine x_iret dX13_piece_37 rfl ?_
        refine k0 _ ?_
        unfold pieceV
        by_cases z : 0 ≤ i ∧ i < rN S m
        · first | (exfalso; split at c24 <;> omega) | rw [if_neg (by omega), if_neg (by split at c33 <;> omega), if_neg (by split at c33 <;> omega), if_neg (by split at c33 <;> omega)]
        · rw [if_pos (by omega)]
end OP1
