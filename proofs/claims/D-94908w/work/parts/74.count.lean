/-! OPERATIONS: count -/
set_option maxRecDepth 100000
section COUNT
variable {G : am_G} {d : Nat} {L : am_L} {h h' : am_H} {Q : am_O → am_L → am_H → Prop} {x o s t : Int} {g : Sg} {b q : Int}
def hdI (g : Sg) (i : Int) : Int := if (gL g i).isSome = true then 1 else 0
def countV (g : Sg) (w : Int) : Int := if w = 0 then tM (gT g) else if w = 1 then tWide (gT g) else if w = 2 then tDeep (gT g) else if w = 3 then rM (gS g) else if w = 4 then sumI (tM (gT g)) (rN (gS g)) else if w = 5 then bits (rL (gS g)) else if w = 6 then tP (gT g) else if w = 7 then sumI (tM (gT g)) (tE (gT g)) else if w = 8 then gD g else if w = 9 then gN g else if w = 10 then gK g else if w = 11 then hdI g 0 + hdI g 1 + hdI g 2 else -1
theorem CoI.hd (hC : CoI L h x t g) {i : Int} (h0 : 0 ≤ i) (h1 : i < 3) : h (x + 180) i = hdI g i := by
  unfold hdI
  rcases hC.2.2.1 i h0 h1 with ⟨z1, z2⟩ | ⟨R, z1, z2, -⟩
  · rw [z1, z2]
    rfl
  · rw [z1, z2]
    rfl
theorem TwI.hd (hC : TwI L h o s g) {i : Int} (h0 : 0 ≤ i) (h1 : i < 3) : h (o + 51) i = hdI g i := by
  unfold hdI
  rcases hC.2.2.1 i h0 h1 with ⟨z1, z2⟩ | ⟨R, z1, z2, -⟩
  · rw [z1, z2]
    rfl
  · rw [z1, z2]
    rfl
theorem hdI_01 (g : Sg) (i : Int) : hdI g i = 0 ∨ hdI g i = 1 := by
  unfold hdI
  split <;> omega
set_option maxHeartbeats 4000000 in
theorem C_X0_count {w : Int} (hC : CoI L h x t g) (hI : SgI g b q) (hw : rg32 w) (k : Q (.inl [aI (countV g w)]) L h) : am_C G mX0_count (d + 430) [aR x, aI w] L h Q := by
  have hT := hI.1
  have hR := hI.2.1
  have hcT := hC.1
  have hK := hcT.mk
  have htx := hcT.tx
  have hht := hcT.ht
  have hcl := hcT.cl
  have hM := hT.1
  have em := hcT.rc.2.2.2.2.2.1
  have el := hcT.rc.2.2.2.2.1
  have e0 := hC.hd (i := 0) (by omega) (by omega)
  have e1 := hC.hd (i := 1) (by omega) (by omega)
  have e2 := hC.hd (i := 2) (by omega) (by omega)
  have q0 := hdI_01 g 0
  have q1 := hdI_01 g 1
  have q2 := hdI_01 g 2
  have eN := hC.2.1.1
  have eK := hC.2.2.2.1.1
  have eD := hC.2.2.2.2.1.1
  have es : sumI 7 (rN (gS g)) = sumI (tM (gT g)) (rN (gS g)) := sumI_ext hM.1 hM.2 (fun k z0 z1 => (hR.1 k (by omega) z1).2.1 z0)
  refine x_start okX0_count rfl rfl rfl rfl ?_
  refine x_iconst dX0_count_0 ?_
  refine x_istore_2 dX0_count_1 rfl ?_
  refine x_iload_1 dX0_count_2 ?_
  refine x_cs (0) (fun c3 => ?_) (fun c3_0 => ?_)
  · refine x_tableIn (off := 61) (tgt := 64) dX0_count_3 (by omega) (by omega) (by omega) (by rw [c3]; rfl) rfl ?_
    refine x_aload_0 dX0_count_64 ?_
    refine x_callV0 dX0_count_65 rfl okX0_men q1196 q1198 qs33 (by first | assumption | (exact MkL.k0 (by assumption))) am_k0 rfl (C_X0_men hcT (x_k1 ?_))
    refine x_iret dX0_count_68 rfl ?_
    refine x_q1 ?_ k
    rw [c3]
    rfl
  refine x_cs (1) (fun c3 => ?_) (fun c3_1 => ?_)
  · refine x_tableIn (off := 66) (tgt := 69) dX0_count_3 (by omega) (by omega) (by omega) (by rw [c3]; rfl) rfl ?_
    refine x_aload_0 dX0_count_69 ?_
    refine x_getW dX0_count_70 fl574_0 rfl (by first | (exact MkL.k0 (by assumption)) | (assumption)) (by assumption) ?_
    refine x_getKI dX0_count_73 fl368_4 (by first | (exact TxL.k0 (by assumption)) | (assumption)) (by first | (exact TxL.vW (by assumption)) | (assumption)) (fun r73 => ?_)
    refine x_iret dX0_count_76 rfl ?_
    refine x_q1 ?_ k
    rw [c3]
    rfl
  refine x_cs (2) (fun c3 => ?_) (fun c3_2 => ?_)
  · refine x_tableIn (off := 74) (tgt := 77) dX0_count_3 (by omega) (by omega) (by omega) (by rw [c3]; rfl) rfl ?_
    refine x_aload_0 dX0_count_77 ?_
    refine x_getW dX0_count_78 fl574_0 rfl (by first | (exact MkL.k0 (by assumption)) | (assumption)) (by assumption) ?_
    refine x_getKI dX0_count_81 fl371_4 (by first | (exact TxL.k0 (by assumption)) | (assumption)) (by first | (exact TxL.vD (by assumption)) | (assumption)) (fun r81 => ?_)
    refine x_iret dX0_count_84 rfl ?_
    refine x_q1 ?_ k
    rw [c3]
    rfl
  refine x_cs (3) (fun c3 => ?_) (fun c3_3 => ?_)
  · refine x_tableIn (off := 82) (tgt := 85) dX0_count_3 (by omega) (by omega) (by omega) (by rw [c3]; rfl) rfl ?_
    refine x_aload_0 dX0_count_85 ?_
    refine x_getR dX0_count_86 fl578_0 rfl (by first | (exact MkL.k0 (by assumption)) | (assumption)) (by first | (exact MkL.v_cloth (by assumption)) | (assumption)) ?_
    refine x_getI_ dX0_count_89 fl451_5 (by first | (exact ClL.k0 (by assumption)) | (assumption)) (fun r89 => ?_)
    rw [em] at r89 ⊢
    refine x_iret dX0_count_92 rfl ?_
    refine x_q1 ?_ k
    rw [c3]
    rfl
  refine x_cs (4) (fun c3 => ?_) (fun c3_4 => ?_)
  · refine x_tableIn (off := 90) (tgt := 93) dX0_count_3 (by omega) (by omega) (by omega) (by rw [c3]; rfl) rfl ?_
    refine x_aload_0 dX0_count_93 ?_
    refine x_getR dX0_count_94 fl578_0 rfl (by first | (exact MkL.k0 (by assumption)) | (assumption)) (by first | (exact MkL.v_cloth (by assumption)) | (assumption)) ?_
    refine x_callV0 dX0_count_97 rfl okX5_pieces q1545 q1546 q1547 (by first | assumption | (exact ClL.k0 (by assumption))) am_k5 rfl (C_X5_pieces hcT.rc (x_k1 ?_))
    refine x_iret dX0_count_100 rfl ?_
    refine x_q1 ?_ k
    rw [es, c3]
    rfl
  refine x_cs (5) (fun c3 => ?_) (fun c3_5 => ?_)
  · refine x_tableIn (off := 98) (tgt := 101) dX0_count_3 (by omega) (by omega) (by omega) (by rw [c3]; rfl) rfl ?_
    refine x_aload_0 dX0_count_101 ?_
    refine x_getR dX0_count_102 fl578_0 rfl (by first | (exact MkL.k0 (by assumption)) | (assumption)) (by first | (exact MkL.v_cloth (by assumption)) | (assumption)) ?_
    refine x_getI_ dX0_count_105 fl448_5 (by first | (exact ClL.k0 (by assumption)) | (assumption)) (fun r105 => ?_)
    rw [el] at r105 ⊢
    refine x_callS1 dX0_count_108 rfl okJ16_bitCount q1340 q1341 rfl (C_J16_bitCount hR.2.2.2.2.1 (x_k1 ?_))
    refine x_iret dX0_count_111 rfl ?_
    refine x_q1 ?_ k
    rw [c3]
    rfl
  refine x_cs (6) (fun c3 => ?_) (fun c3_6 => ?_)
  · refine x_tableIn (off := 109) (tgt := 112) dX0_count_3 (by omega) (by omega) (by omega) (by rw [c3]; rfl) rfl ?_
    refine x_aload_0 dX0_count_112 ?_
    refine x_getW dX0_count_113 fl574_0 rfl (by first | (exact MkL.k0 (by assumption)) | (assumption)) (by assumption) ?_
    refine x_getKI dX0_count_116 fl373_4 (by first | (exact TxL.k0 (by assumption)) | (assumption)) (by first | (exact TxL.vP (by assumption)) | (assumption)) (fun r116 => ?_)
    refine x_iret dX0_count_119 rfl ?_
    refine x_q1 ?_ k
    rw [c3]
    rfl
  refine x_cs (7) (fun c3 => ?_) (fun c3_7 => ?_)
  · refine x_tableIn (off := 117) (tgt := 120) dX0_count_3 (by omega) (by omega) (by omega) (by rw [c3]; rfl) rfl ?_
    refine x_iconst dX0_count_120 ?_
    refine x_istore_3 dX0_count_121 rfl ?_
    refine x_up0 (tM (gT g)) (fun i => 0 ≤ i → i ≤ tM (gT g) → am_X G mX0_count (d + 430) 122 [aR x, aI w, aI (sumI i (tE (gT g))), aI i] [] L h Q) (fun i ih g0 g1 => ?_) 0 (by omega) hM.1
    refine x_iload_3 dX0_count_122 ?_
    refine x_aload_0 dX0_count_123 ?_
    refine x_callV0 dX0_count_124 rfl okX0_men q1196 q1198 qs33 (by first | assumption | (exact MkL.k0 (by assumption))) am_k0 rfl (C_X0_men hcT (x_k1 ?_))
    refine x_icmp_ge (tgt := 156) dX0_count_127 rfl (by omega) (by omega) (fun c127 => ?_) (fun c127 => ?_)
    · refine x_iload_2 dX0_count_156 ?_
      refine x_iret dX0_count_157 rfl ?_
      rw [show i = tM (gT g) by omega]
      refine x_q1 ?_ k
      rw [c3]
      rfl
    · have hma := htx.man (m := i) g0 (by omega)
      refine x_iload_2 dX0_count_130 ?_
      refine x_aload_0 dX0_count_131 ?_
      refine x_getW dX0_count_132 fl574_0 rfl (by first | (exact MkL.k0 (by assumption)) | (assumption)) (by assumption) ?_
      refine x_getR dX0_count_135 fl352_4 rfl (by first | (exact TxL.k0 (by assumption)) | (assumption)) (by first | (rfl) | (assumption)) ?_
      refine x_iload_3 dX0_count_138 ?_
      refine x_callV1 dX0_count_139 rfl okJ5_get q1204 q530 q531 (by first | assumption | (exact TxL.kl (by assumption))) am_k20 rfl (C_J5_get htx.ls ⟨g0, by omega⟩ (x_k1 ?_))
      refine x_cast dX0_count_142 q1205 (by first | assumption | (exact ManL.k0 (by assumption))) am_k14 ?_
      refine x_getKI dX0_count_145 fl995_14 (by first | (exact ManL.k0 (by assumption)) | (assumption)) (by first | (exact ManL.errands (by assumption)) | (assumption)) (fun r145 => ?_)
      refine x_iadd dX0_count_148 ?_
      refine x_istore_2 dX0_count_149 rfl ?_
      refine x_iinc3 dX0_count_150 rfl ?_
      refine x_goto (tgt := 122) dX0_count_153 rfl ?_
      have := ih (by omega) (by omega) (by omega)
      rw [sumI_s _ g0] at this
      exact this
  refine x_cs (8) (fun c3 => ?_) (fun c3_8 => ?_)
  · refine x_tableIn (off := 155) (tgt := 158) dX0_count_3 (by omega) (by omega) (by omega) (by rw [c3]; rfl) rfl ?_
    refine x_aload_0 dX0_count_158 ?_
    refine x_getR dX0_count_159 fl572_0 rfl (by first | (exact MkL.k0 (by assumption)) | (assumption)) (by first | (exact MkL.v_tokens (by assumption)) | (assumption)) ?_
    refine x_getI_ dX0_count_162 fl263_2 (by first | (exact MkL.k_tokens (by assumption)) | (assumption)) (fun r162 => ?_)
    rw [eD] at r162 ⊢
    refine x_iret dX0_count_165 rfl ?_
    refine x_q1 ?_ k
    rw [c3]
    rfl
  refine x_cs (9) (fun c3 => ?_) (fun c3_9 => ?_)
  · refine x_tableIn (off := 163) (tgt := 166) dX0_count_3 (by omega) (by omega) (by omega) (by rw [c3]; rfl) rfl ?_
    refine x_aload_0 dX0_count_166 ?_
    refine x_getI_ dX0_count_167 fl576_0 (by first | (exact MkL.k0 (by assumption)) | (assumption)) (fun r167 => ?_)
    rw [eN] at r167 ⊢
    refine x_iret dX0_count_170 rfl ?_
    refine x_q1 ?_ k
    rw [c3]
    rfl
  refine x_cs (10) (fun c3 => ?_) (fun c3_10 => ?_)
  · refine x_tableIn (off := 168) (tgt := 171) dX0_count_3 (by omega) (by omega) (by omega) (by rw [c3]; rfl) rfl ?_
    refine x_aload_0 dX0_count_171 ?_
    refine x_getI_ dX0_count_172 fl591_0 (by first | (exact MkL.k0 (by assumption)) | (assumption)) (fun r172 => ?_)
    rw [eK] at r172 ⊢
    refine x_iret dX0_count_175 rfl ?_
    refine x_q1 ?_ k
    rw [c3]
    rfl
  refine x_cs (11) (fun c3 => ?_) (fun c3_11 => ?_)
  · refine x_tableIn (off := 173) (tgt := 176) dX0_count_3 (by omega) (by omega) (by omega) (by rw [c3]; rfl) rfl ?_
    refine x_aload_0 dX0_count_176 ?_
    refine x_getR dX0_count_177 fl583_0 rfl (by first | (exact MkL.k0 (by assumption)) | (assumption)) (by first | (exact MkL.v_held (by assumption)) | (assumption)) ?_
    refine x_iconst dX0_count_180 ?_
    refine x_zald_ dX0_count_181 (by first | (exact MkL.k_held (by assumption)) | (assumption)) (by first | (exact MkL.x_held (by assumption) (by omega) (by omega)) | (omega)) (fun r181 => ?_)
    rw [e0] at r181 ⊢
    refine x_if_eq (tgt := 189) dX0_count_182 rfl (by omega) (fun c182 => ?_) (fun c182 => ?_)
    · refine x_iconst dX0_count_189 ?_
      refine x_aload_0 dX0_count_190 ?_
      refine x_getR dX0_count_191 fl583_0 rfl (by first | (exact MkL.k0 (by assumption)) | (assumption)) (by first | (exact MkL.v_held (by assumption)) | (assumption)) ?_
      refine x_iconst dX0_count_194 ?_
      refine x_zald_ dX0_count_195 (by first | (exact MkL.k_held (by assumption)) | (assumption)) (by first | (exact MkL.x_held (by assumption) (by omega) (by omega)) | (omega)) (fun r195 => ?_)
      rw [e1] at r195 ⊢
      refine x_if_eq (tgt := 203) dX0_count_196 rfl (by omega) (fun c196 => ?_) (fun c196 => ?_)
      · refine x_iconst dX0_count_203 ?_
        refine x_iadd dX0_count_204 ?_
        refine x_aload_0 dX0_count_205 ?_
        refine x_getR dX0_count_206 fl583_0 rfl (by first | (exact MkL.k0 (by assumption)) | (assumption)) (by first | (exact MkL.v_held (by assumption)) | (assumption)) ?_
        refine x_iconst dX0_count_209 ?_
        refine x_zald_ dX0_count_210 (by first | (exact MkL.k_held (by assumption)) | (assumption)) (by first | (exact MkL.x_held (by assumption) (by omega) (by omega)) | (omega)) (fun r210 => ?_)
        rw [e2] at r210 ⊢
        refine x_if_eq (tgt := 218) dX0_count_211 rfl (by omega) (fun c211 => ?_) (fun c211 => ?_)
        · refine x_iconst dX0_count_218 ?_
          refine x_iadd dX0_count_219 ?_
          refine x_iret dX0_count_220 rfl ?_
          refine x_q1 ?_ k
          rw [c3]
          show _ = hdI g 0 + hdI g 1 + hdI g 2
          omega
        · refine x_iconst dX0_count_214 ?_
          refine x_goto (tgt := 219) dX0_count_215 rfl ?_
          refine x_iadd dX0_count_219 ?_
          refine x_iret dX0_count_220 rfl ?_
          refine x_q1 ?_ k
          rw [c3]
          show _ = hdI g 0 + hdI g 1 + hdI g 2
          omega
      · refine x_iconst dX0_count_199 ?_
        refine x_goto (tgt := 204) dX0_count_200 rfl ?_
        refine x_iadd dX0_count_204 ?_
        refine x_aload_0 dX0_count_205 ?_
        refine x_getR dX0_count_206 fl583_0 rfl (by first | (exact MkL.k0 (by assumption)) | (assumption)) (by first | (exact MkL.v_held (by assumption)) | (assumption)) ?_
        refine x_iconst dX0_count_209 ?_
        refine x_zald_ dX0_count_210 (by first | (exact MkL.k_held (by assumption)) | (assumption)) (by first | (exact MkL.x_held (by assumption) (by omega) (by omega)) | (omega)) (fun r210 => ?_)
        rw [e2] at r210 ⊢
        refine x_if_eq (tgt := 218) dX0_count_211 rfl (by omega) (fun c211 => ?_) (fun c211 => ?_)
        · refine x_iconst dX0_count_218 ?_
          refine x_iadd dX0_count_219 ?_
          refine x_iret dX0_count_220 rfl ?_
          refine x_q1 ?_ k
          rw [c3]
          show _ = hdI g 0 + hdI g 1 + hdI g 2
          omega
        · refine x_iconst dX0_count_214 ?_
          refine x_goto (tgt := 219) dX0_count_215 rfl ?_
          refine x_iadd dX0_count_219 ?_
          refine x_iret dX0_count_220 rfl ?_
          refine x_q1 ?_ k
          rw [c3]
          show _ = hdI g 0 + hdI g 1 + hdI g 2
          omega
    · refine x_iconst dX0_count_185 ?_
      refine x_goto (tgt := 190) dX0_count_186 rfl ?_
      refine x_aload_0 dX0_count_190 ?_
      refine x_getR dX0_count_191 fl583_0 rfl (by first | (exact MkL.k0 (by assumption)) | (assumption)) (by first | (exact MkL.v_held (by assumption)) | (assumption)) ?_
      refine x_iconst dX0_count_194 ?_
      refine x_zald_ dX0_count_195 (by first | (exact MkL.k_held (by assumption)) | (assumption)) (by first | (exact MkL.x_held (by assumption) (by omega) (by omega)) | (omega)) (fun r195 => ?_)
      rw [e1] at r195 ⊢
      refine x_if_eq (tgt := 203) dX0_count_196 rfl (by omega) (fun c196 => ?_) (fun c196 => ?_)
      · refine x_iconst dX0_count_203 ?_
        refine x_iadd dX0_count_204 ?_
        refine x_aload_0 dX0_count_205 ?_
        refine x_getR dX0_count_206 fl583_0 rfl (by first | (exact MkL.k0 (by assumption)) | (assumption)) (by first | (exact MkL.v_held (by assumption)) | (assumption)) ?_
        refine x_iconst dX0_count_209 ?_
        refine x_zald_ dX0_count_210 (by first | (exact MkL.k_held (by assumption)) | (assumption)) (by first | (exact MkL.x_held (by assumption) (by omega) (by omega)) | (omega)) (fun r210 => ?_)
        rw [e2] at r210 ⊢
        refine x_if_eq (tgt := 218) dX0_count_211 rfl (by omega) (fun c211 => ?_) (fun c211 => ?_)
        · refine x_iconst dX0_count_218 ?_
          refine x_iadd dX0_count_219 ?_
          refine x_iret dX0_count_220 rfl ?_
          refine x_q1 ?_ k
          rw [c3]
          show _ = hdI g 0 + hdI g 1 + hdI g 2
          omega
        · refine x_iconst dX0_count_214 ?_
          refine x_goto (tgt := 219) dX0_count_215 rfl ?_
          refine x_iadd dX0_count_219 ?_
          refine x_iret dX0_count_220 rfl ?_
          refine x_q1 ?_ k
          rw [c3]
          show _ = hdI g 0 + hdI g 1 + hdI g 2
          omega
      · refine x_iconst dX0_count_199 ?_
        refine x_goto (tgt := 204) dX0_count_200 rfl ?_
        refine x_iadd dX0_count_204 ?_
        refine x_aload_0 dX0_count_205 ?_
        refine x_getR dX0_count_206 fl583_0 rfl (by first | (exact MkL.k0 (by assumption)) | (assumption)) (by first | (exact MkL.v_held (by assumption)) | (assumption)) ?_
        refine x_iconst dX0_count_209 ?_
        refine x_zald_ dX0_count_210 (by first | (exact MkL.k_held (by assumption)) | (assumption)) (by first | (exact MkL.x_held (by assumption) (by omega) (by omega)) | (omega)) (fun r210 => ?_)
        rw [e2] at r210 ⊢
        refine x_if_eq (tgt := 218) dX0_count_211 rfl (by omega) (fun c211 => ?_) (fun c211 => ?_)
        · refine x_iconst dX0_count_218 ?_
          refine x_iadd dX0_count_219 ?_
          refine x_iret dX0_count_220 rfl ?_
          refine x_q1 ?_ k
          rw [c3]
          show _ = hdI g 0 + hdI g 1 + hdI g 2
          omega
        · refine x_iconst dX0_count_214 ?_
          refine x_goto (tgt := 219) dX0_count_215 rfl ?_
          refine x_iadd dX0_count_219 ?_
          refine x_iret dX0_count_220 rfl ?_
          refine x_q1 ?_ k
          rw [c3]
          show _ = hdI g 0 + hdI g 1 + hdI g 2
          omega
  refine x_tableOut (tgt := 221) dX0_count_3 (by omega) (by omega) rfl ?_
  refine x_iconst dX0_count_221 ?_
  refine x_iret dX0_count_222 rfl ?_
  refine x_q1 ?_ k
  unfold countV
  simp [*]
set_option maxHeartbeats 4000000 in
theorem C_X13_count {w : Int} (hC : TwI L h o s g) (hI : SgI g b q) (hw : rg32 w) (k : Q (.inl [aI (countV g w)]) L h) : am_C G mX13_count (d + 12) [aR o, aI w] L h Q := by
  have hT := hI.1
  have hR := hI.2.1
  have hM := hC.1.1
  have hnow := hC.1.2
  have hL := hM.1
  have hs := hM.2.1
  have hlv := hM.2.2.1
  have hmen := hM.2.2.2.1
  have ewd := hM.2.2.2.2.1
  have ehi := hM.2.2.2.2.2.1
  have epi := hM.2.2.2.2.2.2.1
  have h7 := hT.1
  have e0 := hC.hd (i := 0) (by omega) (by omega)
  have e1 := hC.hd (i := 1) (by omega) (by omega)
  have e2 := hC.hd (i := 2) (by omega) (by omega)
  have q0 := hdI_01 g 0
  have q1 := hdI_01 g 1
  have q2 := hdI_01 g 2
  have eN := hC.2.1.1
  have eK := hC.2.2.2.1.1
  have eD := hC.2.2.2.2.1.1
  have e28 := hnow.2.2.2.1
  have eb : bits (rL (gS g)) = sumI (tM (gT g)) (bt (rL (gS g))) := sumI_ext h7.1 h7.2 (fun k z0 z1 => hR.2.2.2.2.2.1 k z0 z1 (by omega))
  have lp : (w = 4 ∨ w = 5) → am_X G mX13_count (d + 12) 106 [aR o, aI w, aI 0, aI 0] [] L h Q := fun hv => by
    suffices H : am_X G mX13_count (d + 12) 106 [aR o, aI w, aI (if w = 4 then sumI 0 (rN (gS g)) else sumI 0 (bt (rL (gS g)))), aI 0] [] L h Q by
      have e : (if w = 4 then sumI 0 (rN (gS g)) else sumI 0 (bt (rL (gS g)))) = 0 := by split <;> rfl
      rw [e] at H
      exact H
    refine x_up0 (tM (gT g)) (fun i => 0 ≤ i → i ≤ tM (gT g) → am_X G mX13_count (d + 12) 106 [aR o, aI w, aI (if w = 4 then sumI i (rN (gS g)) else sumI i (bt (rL (gS g)))), aI i] [] L h Q) (fun i ih g0 g1 => ?_) 0 (by omega) h7.1
    refine x_iload_3 dX13_count_106 ?_
    refine x_aload_0 dX13_count_107 ?_
    refine x_getR dX13_count_108 fl1598_13 rfl (by first | (exact MdL.k0 (by assumption)) | (assumption)) (by first | (exact MdL.v_men (by assumption)) | (assumption)) ?_
    refine x_aload_0 dX13_count_111 ?_
    refine x_getI_ dX13_count_112 fl1592_13 (by first | (exact MdL.k0 (by assumption)) | (assumption)) (fun r112 => ?_)
    rw [hlv] at r112 ⊢
    refine x_iald_ dX13_count_115 (by first | (exact MdL.k_men (by assumption)) | (assumption)) (by first | (exact MdL.x_men (by assumption) (by omega) (by omega)) | (omega)) (fun r115 => ?_)
    rw [hmen] at r115 ⊢
    refine x_icmp_ge (tgt := 147) dX13_count_116 rfl (by omega) (by omega) (fun c116 => ?_) (fun c116 => ?_)
    · refine x_iload_2 dX13_count_147 ?_
      refine x_iret dX13_count_148 rfl ?_
      rw [show i = tM (gT g) by omega]
      refine x_q1 ?_ k
      rcases hv with rfl | rfl
      · rfl
      · exact eb.symm
    · obtain ⟨en, ebt⟩ := hnow.1 i g0 (by omega)
      refine x_iload_2 dX13_count_119 ?_
      refine x_aload_0 dX13_count_120 ?_
      refine x_getR dX13_count_121 fl1629_13 rfl (by first | (exact MdL.k0 (by assumption)) | (assumption)) (by first | (exact MdL.v_now (by assumption)) | (assumption)) ?_
      refine x_iload_1 dX13_count_124 ?_
      refine x_iconst dX13_count_125 ?_
      refine x_icmp_ne (tgt := 134) dX13_count_126 rfl (by omega) (by omega) (fun c126 => ?_) (fun c126 => ?_)
      · refine x_bipush dX13_count_134 rfl ?_
        refine x_iload_3 dX13_count_136 ?_
        refine x_iadd dX13_count_137 ?_
        refine x_iald_ dX13_count_138 (by first | (exact MdL.k_now (by assumption)) | (assumption)) (by first | (exact MdL.x_now (by assumption) (by omega) (by omega)) | (omega)) (fun r138 => ?_)
        simp (disch := omega) only [en, ebt] at r138 ⊢
        refine x_iadd dX13_count_139 ?_
        refine x_istore_2 dX13_count_140 rfl ?_
        refine x_iinc3 dX13_count_141 rfl ?_
        refine x_goto (tgt := 106) dX13_count_144 rfl ?_
        have := ih (by omega) (by omega) (by omega)
        first
        | (rw [if_pos (by omega)] at this ⊢
           rw [sumI_s _ g0] at this
           exact this)
        | (rw [if_neg (by omega)] at this ⊢
           rw [sumI_s _ g0] at this
           exact this)
      · refine x_bipush dX13_count_129 rfl ?_
        refine x_goto (tgt := 136) dX13_count_131 rfl ?_
        refine x_iload_3 dX13_count_136 ?_
        refine x_iadd dX13_count_137 ?_
        refine x_iald_ dX13_count_138 (by first | (exact MdL.k_now (by assumption)) | (assumption)) (by first | (exact MdL.x_now (by assumption) (by omega) (by omega)) | (omega)) (fun r138 => ?_)
        simp (disch := omega) only [en, ebt] at r138 ⊢
        refine x_iadd dX13_count_139 ?_
        refine x_istore_2 dX13_count_140 rfl ?_
        refine x_iinc3 dX13_count_141 rfl ?_
        refine x_goto (tgt := 106) dX13_count_144 rfl ?_
        have := ih (by omega) (by omega) (by omega)
        first
        | (rw [if_pos (by omega)] at this ⊢
           rw [sumI_s _ g0] at this
           exact this)
        | (rw [if_neg (by omega)] at this ⊢
           rw [sumI_s _ g0] at this
           exact this)
  refine x_start okX13_count rfl rfl rfl rfl ?_
  refine x_iload_1 dX13_count_0 ?_
  refine x_cs (0) (fun c1 => ?_) (fun c1_0 => ?_)
  · refine x_tableIn (off := 63) (tgt := 64) dX13_count_1 (by omega) (by omega) (by omega) (by rw [c1]; rfl) rfl ?_
    refine x_aload_0 dX13_count_64 ?_
    refine x_getR dX13_count_65 fl1598_13 rfl (by first | (exact MdL.k0 (by assumption)) | (assumption)) (by first | (exact MdL.v_men (by assumption)) | (assumption)) ?_
    refine x_aload_0 dX13_count_68 ?_
    refine x_getI_ dX13_count_69 fl1592_13 (by first | (exact MdL.k0 (by assumption)) | (assumption)) (fun r69 => ?_)
    rw [hlv] at r69 ⊢
    refine x_iald_ dX13_count_72 (by first | (exact MdL.k_men (by assumption)) | (assumption)) (by first | (exact MdL.x_men (by assumption) (by omega) (by omega)) | (omega)) (fun r72 => ?_)
    rw [hmen] at r72 ⊢
    refine x_iret dX13_count_73 rfl ?_
    refine x_q1 ?_ k
    rw [c1]
    rfl
  refine x_cs (1) (fun c1 => ?_) (fun c1_1 => ?_)
  · refine x_tableIn (off := 73) (tgt := 74) dX13_count_1 (by omega) (by omega) (by omega) (by rw [c1]; rfl) rfl ?_
    refine x_aload_0 dX13_count_74 ?_
    refine x_getR dX13_count_75 fl1596_13 rfl (by first | (exact MdL.k0 (by assumption)) | (assumption)) (by first | (exact MdL.v_wide (by assumption)) | (assumption)) ?_
    refine x_aload_0 dX13_count_78 ?_
    refine x_getI_ dX13_count_79 fl1592_13 (by first | (exact MdL.k0 (by assumption)) | (assumption)) (fun r79 => ?_)
    rw [hlv] at r79 ⊢
    refine x_iald_ dX13_count_82 (by first | (exact MdL.k_wide (by assumption)) | (assumption)) (by first | (exact MdL.x_wide (by assumption) (by omega) (by omega)) | (omega)) (fun r82 => ?_)
    rw [ewd] at r82 ⊢
    refine x_iret dX13_count_83 rfl ?_
    refine x_q1 ?_ k
    rw [c1]
    rfl
  refine x_cs (2) (fun c1 => ?_) (fun c1_2 => ?_)
  · refine x_tableIn (off := 83) (tgt := 84) dX13_count_1 (by omega) (by omega) (by omega) (by rw [c1]; rfl) rfl ?_
    refine x_aload_0 dX13_count_84 ?_
    refine x_getR dX13_count_85 fl1597_13 rfl (by first | (exact MdL.k0 (by assumption)) | (assumption)) (by first | (exact MdL.v_high (by assumption)) | (assumption)) ?_
    refine x_aload_0 dX13_count_88 ?_
    refine x_getI_ dX13_count_89 fl1592_13 (by first | (exact MdL.k0 (by assumption)) | (assumption)) (fun r89 => ?_)
    rw [hlv] at r89 ⊢
    refine x_iald_ dX13_count_92 (by first | (exact MdL.k_high (by assumption)) | (assumption)) (by first | (exact MdL.x_high (by assumption) (by omega) (by omega)) | (omega)) (fun r92 => ?_)
    rw [ehi] at r92 ⊢
    refine x_iret dX13_count_93 rfl ?_
    refine x_q1 ?_ k
    rw [c1]
    rfl
  refine x_cs (3) (fun c1 => ?_) (fun c1_3 => ?_)
  · refine x_tableIn (off := 93) (tgt := 94) dX13_count_1 (by omega) (by omega) (by omega) (by rw [c1]; rfl) rfl ?_
    refine x_aload_0 dX13_count_94 ?_
    refine x_getR dX13_count_95 fl1629_13 rfl (by first | (exact MdL.k0 (by assumption)) | (assumption)) (by first | (exact MdL.v_now (by assumption)) | (assumption)) ?_
    refine x_bipush dX13_count_98 rfl ?_
    refine x_iald_ dX13_count_100 (by first | (exact MdL.k_now (by assumption)) | (assumption)) (by first | (exact MdL.x_now (by assumption) (by omega) (by omega)) | (omega)) (fun r100 => ?_)
    rw [e28] at r100 ⊢
    refine x_iret dX13_count_101 rfl ?_
    refine x_q1 ?_ k
    rw [c1]
    rfl
  refine x_cs (4) (fun c1 => ?_) (fun c1_4 => ?_)
  · refine x_tableIn (off := 101) (tgt := 102) dX13_count_1 (by omega) (by omega) (by omega) (by rw [c1]; rfl) rfl ?_
    refine x_iconst dX13_count_102 ?_
    refine x_istore_2 dX13_count_103 rfl ?_
    refine x_iconst dX13_count_104 ?_
    refine x_istore_3 dX13_count_105 rfl ?_
    exact lp (by omega)
  refine x_cs (5) (fun c1 => ?_) (fun c1_5 => ?_)
  · refine x_tableIn (off := 101) (tgt := 102) dX13_count_1 (by omega) (by omega) (by omega) (by rw [c1]; rfl) rfl ?_
    refine x_iconst dX13_count_102 ?_
    refine x_istore_2 dX13_count_103 rfl ?_
    refine x_iconst dX13_count_104 ?_
    refine x_istore_3 dX13_count_105 rfl ?_
    exact lp (by omega)
  refine x_cs (6) (fun c1 => ?_) (fun c1_6 => ?_)
  · refine x_tableIn (off := 148) (tgt := 149) dX13_count_1 (by omega) (by omega) (by omega) (by rw [c1]; rfl) rfl ?_
    refine x_aload_0 dX13_count_149 ?_
    refine x_getR dX13_count_150 fl1605_13 rfl (by first | (exact MdL.k0 (by assumption)) | (assumption)) (by first | (exact MdL.v_pillars (by assumption)) | (assumption)) ?_
    refine x_aload_0 dX13_count_153 ?_
    refine x_getI_ dX13_count_154 fl1592_13 (by first | (exact MdL.k0 (by assumption)) | (assumption)) (fun r154 => ?_)
    rw [hlv] at r154 ⊢
    refine x_iald_ dX13_count_157 (by first | (exact MdL.k_pillars (by assumption)) | (assumption)) (by first | (exact MdL.x_pillars (by assumption) (by omega) (by omega)) | (omega)) (fun r157 => ?_)
    rw [epi] at r157 ⊢
    refine x_iret dX13_count_158 rfl ?_
    refine x_q1 ?_ k
    rw [c1]
    rfl
  refine x_cs (7) (fun c1 => ?_) (fun c1_7 => ?_)
  · refine x_tableIn (off := 158) (tgt := 159) dX13_count_1 (by omega) (by omega) (by omega) (by rw [c1]; rfl) rfl ?_
    refine x_iconst dX13_count_159 ?_
    refine x_istore_2 dX13_count_160 rfl ?_
    refine x_iconst dX13_count_161 ?_
    refine x_istore_3 dX13_count_162 rfl ?_
    refine x_up0 (tM (gT g)) (fun i => 0 ≤ i → i ≤ tM (gT g) → am_X G mX13_count (d + 12) 163 [aR o, aI w, aI (sumI i (tE (gT g))), aI i] [] L h Q) (fun i ih g0 g1 => ?_) 0 (by omega) h7.1
    refine x_iload_3 dX13_count_163 ?_
    refine x_aload_0 dX13_count_164 ?_
    refine x_getR dX13_count_165 fl1598_13 rfl (by first | (exact MdL.k0 (by assumption)) | (assumption)) (by first | (exact MdL.v_men (by assumption)) | (assumption)) ?_
    refine x_aload_0 dX13_count_168 ?_
    refine x_getI_ dX13_count_169 fl1592_13 (by first | (exact MdL.k0 (by assumption)) | (assumption)) (fun r169 => ?_)
    rw [hlv] at r169 ⊢
    refine x_iald_ dX13_count_172 (by first | (exact MdL.k_men (by assumption)) | (assumption)) (by first | (exact MdL.x_men (by assumption) (by omega) (by omega)) | (omega)) (fun r172 => ?_)
    rw [hmen] at r172 ⊢
    refine x_icmp_ge (tgt := 199) dX13_count_173 rfl (by omega) (by omega) (fun c173 => ?_) (fun c173 => ?_)
    · refine x_iload_2 dX13_count_199 ?_
      refine x_iret dX13_count_200 rfl ?_
      rw [show i = tM (gT g) by omega]
      refine x_q1 ?_ k
      rw [c1]
      rfl
    · have ee := (hM.2.2.2.2.2.2.2.2.1 i g0 (by omega)).2.2.2.1
      refine x_iload_2 dX13_count_176 ?_
      refine x_aload_0 dX13_count_177 ?_
      refine x_getR dX13_count_178 fl1602_13 rfl (by first | (exact MdL.k0 (by assumption)) | (assumption)) (by first | (exact MdL.v_errands (by assumption)) | (assumption)) ?_
      refine x_bipush dX13_count_181 rfl ?_
      refine x_aload_0 dX13_count_183 ?_
      refine x_getI_ dX13_count_184 fl1592_13 (by first | (exact MdL.k0 (by assumption)) | (assumption)) (fun r184 => ?_)
      rw [hlv] at r184 ⊢
      refine x_imul dX13_count_187 ?_
      refine x_iload_3 dX13_count_188 ?_
      refine x_iadd dX13_count_189 ?_
      refine x_iald_ dX13_count_190 (by first | (exact MdL.k_errands (by assumption)) | (assumption)) (by first | (exact MdL.x_errands (by assumption) (by omega) (by omega)) | (omega)) (fun r190 => ?_)
      rw [ee] at r190 ⊢
      refine x_iadd dX13_count_191 ?_
      refine x_istore_2 dX13_count_192 rfl ?_
      refine x_iinc3 dX13_count_193 rfl ?_
      refine x_goto (tgt := 163) dX13_count_196 rfl ?_
      have := ih (by omega) (by omega) (by omega)
      rw [sumI_s _ g0] at this
      exact this
  refine x_cs (8) (fun c1 => ?_) (fun c1_8 => ?_)
  · refine x_tableIn (off := 200) (tgt := 201) dX13_count_1 (by omega) (by omega) (by omega) (by rw [c1]; rfl) rfl ?_
    refine x_aload_0 dX13_count_201 ?_
    refine x_getI_ dX13_count_202 fl1576_13 (by first | (exact MdL.k0 (by assumption)) | (assumption)) (fun r202 => ?_)
    rw [eD] at r202 ⊢
    refine x_iret dX13_count_205 rfl ?_
    refine x_q1 ?_ k
    rw [c1]
    rfl
  refine x_cs (9) (fun c1 => ?_) (fun c1_9 => ?_)
  · refine x_tableIn (off := 205) (tgt := 206) dX13_count_1 (by omega) (by omega) (by omega) (by rw [c1]; rfl) rfl ?_
    refine x_aload_0 dX13_count_206 ?_
    refine x_getI_ dX13_count_207 fl1632_13 (by first | (exact MdL.k0 (by assumption)) | (assumption)) (fun r207 => ?_)
    rw [eN] at r207 ⊢
    refine x_iret dX13_count_210 rfl ?_
    refine x_q1 ?_ k
    rw [c1]
    rfl
  refine x_cs (10) (fun c1 => ?_) (fun c1_10 => ?_)
  · refine x_tableIn (off := 210) (tgt := 211) dX13_count_1 (by omega) (by omega) (by omega) (by rw [c1]; rfl) rfl ?_
    refine x_aload_0 dX13_count_211 ?_
    refine x_getI_ dX13_count_212 fl1643_13 (by first | (exact MdL.k0 (by assumption)) | (assumption)) (fun r212 => ?_)
    rw [eK] at r212 ⊢
    refine x_iret dX13_count_215 rfl ?_
    refine x_q1 ?_ k
    rw [c1]
    rfl
  refine x_cs (11) (fun c1 => ?_) (fun c1_11 => ?_)
  · refine x_tableIn (off := 215) (tgt := 216) dX13_count_1 (by omega) (by omega) (by omega) (by rw [c1]; rfl) rfl ?_
    refine x_aload_0 dX13_count_216 ?_
    refine x_getR dX13_count_217 fl1647_13 rfl (by first | (exact MdL.k0 (by assumption)) | (assumption)) (by first | (exact MdL.v_isHeld (by assumption)) | (assumption)) ?_
    refine x_iconst dX13_count_220 ?_
    refine x_zald_ dX13_count_221 (by first | (exact MdL.k_isHeld (by assumption)) | (assumption)) (by first | (exact MdL.x_isHeld (by assumption) (by omega) (by omega)) | (omega)) (fun r221 => ?_)
    rw [e0] at r221 ⊢
    refine x_if_eq (tgt := 229) dX13_count_222 rfl (by omega) (fun c222 => ?_) (fun c222 => ?_)
    · refine x_iconst dX13_count_229 ?_
      refine x_aload_0 dX13_count_230 ?_
      refine x_getR dX13_count_231 fl1647_13 rfl (by first | (exact MdL.k0 (by assumption)) | (assumption)) (by first | (exact MdL.v_isHeld (by assumption)) | (assumption)) ?_
      refine x_iconst dX13_count_234 ?_
      refine x_zald_ dX13_count_235 (by first | (exact MdL.k_isHeld (by assumption)) | (assumption)) (by first | (exact MdL.x_isHeld (by assumption) (by omega) (by omega)) | (omega)) (fun r235 => ?_)
      rw [e1] at r235 ⊢
      refine x_if_eq (tgt := 243) dX13_count_236 rfl (by omega) (fun c236 => ?_) (fun c236 => ?_)
      · refine x_iconst dX13_count_243 ?_
        refine x_iadd dX13_count_244 ?_
        refine x_aload_0 dX13_count_245 ?_
        refine x_getR dX13_count_246 fl1647_13 rfl (by first | (exact MdL.k0 (by assumption)) | (assumption)) (by first | (exact MdL.v_isHeld (by assumption)) | (assumption)) ?_
        refine x_iconst dX13_count_249 ?_
        refine x_zald_ dX13_count_250 (by first | (exact MdL.k_isHeld (by assumption)) | (assumption)) (by first | (exact MdL.x_isHeld (by assumption) (by omega) (by omega)) | (omega)) (fun r250 => ?_)
        rw [e2] at r250 ⊢
        refine x_if_eq (tgt := 258) dX13_count_251 rfl (by omega) (fun c251 => ?_) (fun c251 => ?_)
        · refine x_iconst dX13_count_258 ?_
          refine x_iadd dX13_count_259 ?_
          refine x_iret dX13_count_260 rfl ?_
          refine x_q1 ?_ k
          rw [c1]
          show _ = hdI g 0 + hdI g 1 + hdI g 2
          omega
        · refine x_iconst dX13_count_254 ?_
          refine x_goto (tgt := 259) dX13_count_255 rfl ?_
          refine x_iadd dX13_count_259 ?_
          refine x_iret dX13_count_260 rfl ?_
          refine x_q1 ?_ k
          rw [c1]
          show _ = hdI g 0 + hdI g 1 + hdI g 2
          omega
      · refine x_iconst dX13_count_239 ?_
        refine x_goto (tgt := 244) dX13_count_240 rfl ?_
        refine x_iadd dX13_count_244 ?_
        refine x_aload_0 dX13_count_245 ?_
        refine x_getR dX13_count_246 fl1647_13 rfl (by first | (exact MdL.k0 (by assumption)) | (assumption)) (by first | (exact MdL.v_isHeld (by assumption)) | (assumption)) ?_
        refine x_iconst dX13_count_249 ?_
        refine x_zald_ dX13_count_250 (by first | (exact MdL.k_isHeld (by assumption)) | (assumption)) (by first | (exact MdL.x_isHeld (by assumption) (by omega) (by omega)) | (omega)) (fun r250 => ?_)
        rw [e2] at r250 ⊢
        refine x_if_eq (tgt := 258) dX13_count_251 rfl (by omega) (fun c251 => ?_) (fun c251 => ?_)
        · refine x_iconst dX13_count_258 ?_
          refine x_iadd dX13_count_259 ?_
          refine x_iret dX13_count_260 rfl ?_
          refine x_q1 ?_ k
          rw [c1]
          show _ = hdI g 0 + hdI g 1 + hdI g 2
          omega
        · refine x_iconst dX13_count_254 ?_
          refine x_goto (tgt := 259) dX13_count_255 rfl ?_
          refine x_iadd dX13_count_259 ?_
          refine x_iret dX13_count_260 rfl ?_
          refine x_q1 ?_ k
          rw [c1]
          show _ = hdI g 0 + hdI g 1 + hdI g 2
          omega
    · refine x_iconst dX13_count_225 ?_
      refine x_goto (tgt := 230) dX13_count_226 rfl ?_
      refine x_aload_0 dX13_count_230 ?_
      refine x_getR dX13_count_231 fl1647_13 rfl (by first | (exact MdL.k0 (by assumption)) | (assumption)) (by first | (exact MdL.v_isHeld (by assumption)) | (assumption)) ?_
      refine x_iconst dX13_count_234 ?_
      refine x_zald_ dX13_count_235 (by first | (exact MdL.k_isHeld (by assumption)) | (assumption)) (by first | (exact MdL.x_isHeld (by assumption) (by omega) (by omega)) | (omega)) (fun r235 => ?_)
      rw [e1] at r235 ⊢
      refine x_if_eq (tgt := 243) dX13_count_236 rfl (by omega) (fun c236 => ?_) (fun c236 => ?_)
      · refine x_iconst dX13_count_243 ?_
        refine x_iadd dX13_count_244 ?_
        refine x_aload_0 dX13_count_245 ?_
        refine x_getR dX13_count_246 fl1647_13 rfl (by first | (exact MdL.k0 (by assumption)) | (assumption)) (by first | (exact MdL.v_isHeld (by assumption)) | (assumption)) ?_
        refine x_iconst dX13_count_249 ?_
        refine x_zald_ dX13_count_250 (by first | (exact MdL.k_isHeld (by assumption)) | (assumption)) (by first | (exact MdL.x_isHeld (by assumption) (by omega) (by omega)) | (omega)) (fun r250 => ?_)
        rw [e2] at r250 ⊢
        refine x_if_eq (tgt := 258) dX13_count_251 rfl (by omega) (fun c251 => ?_) (fun c251 => ?_)
        · refine x_iconst dX13_count_258 ?_
          refine x_iadd dX13_count_259 ?_
          refine x_iret dX13_count_260 rfl ?_
          refine x_q1 ?_ k
          rw [c1]
          show _ = hdI g 0 + hdI g 1 + hdI g 2
          omega
        · refine x_iconst dX13_count_254 ?_
          refine x_goto (tgt := 259) dX13_count_255 rfl ?_
          refine x_iadd dX13_count_259 ?_
          refine x_iret dX13_count_260 rfl ?_
          refine x_q1 ?_ k
          rw [c1]
          show _ = hdI g 0 + hdI g 1 + hdI g 2
          omega
      · refine x_iconst dX13_count_239 ?_
        refine x_goto (tgt := 244) dX13_count_240 rfl ?_
        refine x_iadd dX13_count_244 ?_
        refine x_aload_0 dX13_count_245 ?_
        refine x_getR dX13_count_246 fl1647_13 rfl (by first | (exact MdL.k0 (by assumption)) | (assumption)) (by first | (exact MdL.v_isHeld (by assumption)) | (assumption)) ?_
        refine x_iconst dX13_count_249 ?_
        refine x_zald_ dX13_count_250 (by first | (exact MdL.k_isHeld (by assumption)) | (assumption)) (by first | (exact MdL.x_isHeld (by assumption) (by omega) (by omega)) | (omega)) (fun r250 => ?_)
        rw [e2] at r250 ⊢
        refine x_if_eq (tgt := 258) dX13_count_251 rfl (by omega) (fun c251 => ?_) (fun c251 => ?_)
        · refine x_iconst dX13_count_258 ?_
          refine x_iadd dX13_count_259 ?_
          refine x_iret dX13_count_260 rfl ?_
          refine x_q1 ?_ k
          rw [c1]
          show _ = hdI g 0 + hdI g 1 + hdI g 2
          omega
        · refine x_iconst dX13_count_254 ?_
          refine x_goto (tgt := 259) dX13_count_255 rfl ?_
          refine x_iadd dX13_count_259 ?_
          refine x_iret dX13_count_260 rfl ?_
          refine x_q1 ?_ k
          rw [c1]
          show _ = hdI g 0 + hdI g 1 + hdI g 2
          omega
  refine x_tableOut (tgt := 261) dX13_count_1 (by omega) (by omega) rfl ?_
  refine x_iconst dX13_count_261 ?_
  refine x_iret dX13_count_262 rfl ?_
  refine x_q1 ?_ k
  unfold countV
  simp [*]
end COUNT
