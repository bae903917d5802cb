/-! THE TWIN READS: a sum, by induction -/
set_option maxRecDepth 100000
section MSUM
variable {G : am_G} {L : am_L} {h : am_H} {h0 : am_H} {o s c0 base D N a op c w w' m : Int} {b : Int → Int} {d : Nat} {Q : am_O → am_L → am_H → Prop} {t : Tau}
theorem exFlt (hL : MdL L o) (hf : 0 < h o 13) (kk : Q (.inl []) L h) : XE G d L Q o base 23 h := by
  show am_X G mX13_expression (d + 5) 23 [aR o, aI base, aI 1] [] L h Q
  refine x_aload_0 dX13_expression_23 ?_
  refine x_bipush dX13_expression_24 rfl ?_
  refine x_callV1 dX13_expression_26 rfl okX13_is q1839 q1841 qs60 (by first | assumption | (exact MdL.k0 (by assumption))) am_k13 rfl (C_X13_is0 hL hf (x_k1 ?_))
  refine x_if_eq (tgt := 84) dX13_expression_29 rfl (by omega) (fun c29 => ?_) (fun c29 => ?_)
  · refine x_aload_0 dX13_expression_84 ?_
    refine x_callV0 dX13_expression_85 rfl okX13_unit q1895 q1897 qs74 (by first | assumption | (exact MdL.k0 (by assumption))) am_k13 rfl (C_X13_unit0 hL hf (x_k0 ?_))
    refine x_aload_0 dX13_expression_88 ?_
    refine x_getI_ dX13_expression_89 fl1587_13 (by first | (exact MdL.k0 (by assumption)) | (assumption)) (fun r89 => ?_)
    refine x_if_le (tgt := 96) dX13_expression_92 rfl (by omega) (fun c92 => ?_) (fun c92 => ?_)
    · exfalso; omega
    · refine x_ret dX13_expression_95 rfl ?_
      exact kk
  · exact absurd rfl c29
theorem exFlt12 (hL : MdL L o) (hf : 0 < h o 13) (kk : Q (.inl []) L h) : am_X G mX13_expression (d + 5) 12 [aR o, aI base, aI 1] [] L h Q := by
  refine x_iload_2 dX13_expression_12 ?_
  refine x_if_eq (tgt := 272) dX13_expression_13 rfl (by omega) (fun c13 => ?_) (fun c13 => ?_)
  · refine x_ret dX13_expression_272 rfl ?_
    exact kk
  · refine x_aload_0 dX13_expression_16 ?_
    refine x_getI_ dX13_expression_17 fl1587_13 (by first | (exact MdL.k0 (by assumption)) | (assumption)) (fun r17 => ?_)
    refine x_if_ne (tgt := 272) dX13_expression_20 rfl (by omega) (fun c20 => ?_) (fun c20 => ?_)
    · refine x_ret dX13_expression_272 rfl ?_
      exact kk
    · exfalso; omega
/-- after a unit, a fault having been told: the end -/
theorem exFlt96 (hL : MdL L o) (hb : 0 ≤ base ∧ base ≤ 6) (hf : 0 < h o 13) (hs : 0 ≤ s ∧ s ≤ 1) (hw : h o 51 = w) (hc : h o 47 = c) (hw0 : 0 ≤ w ∧ w ≤ 64) (hcc : 0 ≤ c ∧ c + w ≤ 420 * s + 420) (kk : ∀ h', CoF h h' o s c → Q (.inl []) L h') : XE G d L Q o base 96 h := by
  have hco : ∀ hh, hh = h → am_C G mX13_comesOut (d + 4) [aR o, aI 0] L hh (am_K G mX13_expression (d + 5) 206 [aR o, aI base, aI 0] [] Q) := by
    intro hh e
    subst e
    refine x_start okX13_comesOut rfl rfl rfl rfl ?_
    exact coAny hL hs (fun h' f => x_k0 (by
      refine x_ret dX13_expression_209 rfl ?_
      exact kk h' f)) w.toNat w c hh (by omega) (CoF.rf _ _ _ _) hw hc hw0.1 hw0.2 hcc.1 (Int.le_refl _) hcc.2
  show am_X G mX13_expression (d + 5) 96 [aR o, aI base, aI 1] [] L h Q
  refine x_aload_0 dX13_expression_96 ?_
  refine x_bipush dX13_expression_97 rfl ?_
  refine x_callV1 dX13_expression_99 rfl okX13_is q1839 q1841 qs60 (by first | assumption | (exact MdL.k0 (by assumption))) am_k13 rfl (C_X13_is0 hL hf (x_k1 ?_))
  refine x_if_eq (tgt := 145) dX13_expression_102 rfl (by omega) (fun c102 => ?_) (fun c102 => ?_)
  · refine x_aload_0 dX13_expression_145 ?_
    refine x_bipush dX13_expression_146 rfl ?_
    refine x_callV1 dX13_expression_148 rfl okX13_is q1839 q1841 qs60 (by first | assumption | (exact MdL.k0 (by assumption))) am_k13 rfl (C_X13_is0 hL hf (x_k1 ?_))
    refine x_if_ne (tgt := 181) dX13_expression_151 rfl (by omega) (fun c151 => ?_) (fun c151 => ?_)
    · first
      | exact absurd rfl c151
      | exact absurd rfl c160
      | exact absurd rfl c169
      | exact absurd rfl c178
    · refine x_aload_0 dX13_expression_154 ?_
      refine x_bipush dX13_expression_155 rfl ?_
      refine x_callV1 dX13_expression_157 rfl okX13_is q1839 q1841 qs60 (by first | assumption | (exact MdL.k0 (by assumption))) am_k13 rfl (C_X13_is0 hL hf (x_k1 ?_))
      refine x_if_ne (tgt := 181) dX13_expression_160 rfl (by omega) (fun c160 => ?_) (fun c160 => ?_)
      · first
        | exact absurd rfl c151
        | exact absurd rfl c160
        | exact absurd rfl c169
        | exact absurd rfl c178
      · refine x_aload_0 dX13_expression_163 ?_
        refine x_bipush dX13_expression_164 rfl ?_
        refine x_callV1 dX13_expression_166 rfl okX13_is q1839 q1841 qs60 (by first | assumption | (exact MdL.k0 (by assumption))) am_k13 rfl (C_X13_is0 hL hf (x_k1 ?_))
        refine x_if_ne (tgt := 181) dX13_expression_169 rfl (by omega) (fun c169 => ?_) (fun c169 => ?_)
        · first
          | exact absurd rfl c151
          | exact absurd rfl c160
          | exact absurd rfl c169
          | exact absurd rfl c178
        · refine x_aload_0 dX13_expression_172 ?_
          refine x_bipush dX13_expression_173 rfl ?_
          refine x_callV1 dX13_expression_175 rfl okX13_is q1839 q1841 qs60 (by first | assumption | (exact MdL.k0 (by assumption))) am_k13 rfl (C_X13_is0 hL hf (x_k1 ?_))
          refine x_if_eq (tgt := 185) dX13_expression_178 rfl (by omega) (fun c178 => ?_) (fun c178 => ?_)
          · refine x_iconst dX13_expression_185 ?_
            refine x_istore_2 dX13_expression_186 rfl ?_
            refine x_iload_2 dX13_expression_187 ?_
            refine x_if_ne (tgt := 210) dX13_expression_188 rfl (by omega) (fun c188 => ?_) (fun c188 => ?_)
            · exact absurd rfl c188
            · refine x_aload_0 dX13_expression_191 ?_
              refine x_getI_ dX13_expression_192 fl1586_13 (by first | (exact MdL.k0 (by assumption)) | (assumption)) (fun r192 => ?_)
              refine x_iload_1 dX13_expression_195 ?_
              refine x_icmp_le (tgt := 204) dX13_expression_196 rfl (by omega) (by omega) (fun c196 => ?_) (fun c196 => ?_)
              · refine x_aload_0 dX13_expression_204 ?_
                refine x_iconst dX13_expression_205 ?_
                refine x_callV1 dX13_expression_206 rfl okX13_comesOut q1903 q1905 qs76 (by first | assumption | (exact MdL.k0 (by assumption))) am_k13 rfl (hco _ rfl)
                skip
              · refine x_aload_0 dX13_expression_199 ?_
                refine x_iconst dX13_expression_200 ?_
                refine x_callV1 dX13_expression_201 rfl okX13_fail q1851 q1853 qs63 (by first | assumption | (exact MdL.k0 (by assumption))) am_k13 rfl (C_X13_fail0 hL hf (x_k0 ?_))
                refine x_aload_0 dX13_expression_204 ?_
                refine x_iconst dX13_expression_205 ?_
                refine x_callV1 dX13_expression_206 rfl okX13_comesOut q1903 q1905 qs76 (by first | assumption | (exact MdL.k0 (by assumption))) am_k13 rfl (hco _ rfl)
                skip
          · first
            | exact absurd rfl c151
            | exact absurd rfl c160
            | exact absurd rfl c169
            | exact absurd rfl c178
  · exact absurd rfl c102
/-- comesOut, whatever waits -/
theorem C_coAny (hL : MdL L o) (hs : 0 ≤ s ∧ s ≤ 1) (hw : h o 51 = w) (hc : h o 47 = c) (hw0 : 0 ≤ w ∧ w ≤ 64) (hcc : 0 ≤ c ∧ c + w ≤ 420 * s + 420) (kk : ∀ h', CoF h h' o s c → Q (.inl []) L h') : am_C G mX13_comesOut (d + 2) [aR o, aI 0] L h Q := by
  refine x_start okX13_comesOut rfl rfl rfl rfl ?_
  exact coAny hL hs kk w.toNat w c h (by omega) (CoF.rf _ _ _ _) hw hc hw0.1 hw0.2 hcc.1 (Int.le_refl _) hcc.2
theorem PdP.le (r : PdP h o m c w w' t) : w ≤ w' ∧ w' ≤ w + 1 ∧ m < c := by
  rcases r with ⟨e, q⟩ | ⟨k, m2, t1, t2, e, q1, q2, q3, q4, q5⟩
  · have := q.lt
    omega
  · have := q3.lt
    have := q4.lt
    omega
theorem PdS.le (r : PdS h o m c w w' t) : w ≤ w' ∧ w' ≤ w + 2 ∧ m < c := by
  rcases r with q | ⟨k, m2, t1, t2, q1, q2, q3, q4, q5⟩
  · have := q.le
    omega
  · have := q3.lt
    have := q4.le
    omega
/-- a sign k at token a: what waits comes out by its rule, then it waits -/
theorem ex_op {g : Int} (hR : RdM L h o b D N) (x1 : h o 13 = 0) (x2 : h o 11 = a) (ha : inN N a) (hk : sK b D a = 8 ∨ sK b D a = 9 ∨ sK b D a = 10 ∨ sK b D a = 15) (hg : g = if sK b D a = 10 ∨ sK b D a = 15 then 1 else 0) (hco : am_C G mX13_comesOut (d + 4) [aR o, aI g] L h (am_K G mX13_expression (d + 5) 234 [aR o, aI base, aI 1] [] Q)) : XE G d L Q o base 96 h := by
  have hL := hR.ml
  show am_X G mX13_expression (d + 5) 96 [aR o, aI base, aI 1] [] L h Q
  rcases hk with q | q | q | q
  · have hg0 : g = 0 := by rw [hg, if_neg (by omega)]
    subst hg0
    have h234 : am_X G mX13_expression (d + 5) 234 [aR o, aI base, aI 1] [aI 0, aR o] L h Q := by
      refine x_callV1 dX13_expression_234 rfl okX13_comesOut q1903 q1905 qs76 (by first | assumption | (exact MdL.k0 (by assumption))) am_k13 rfl hco
      skip
    have h181 : am_X G mX13_expression (d + 5) 181 [aR o, aI base, aI 1] [] L h Q := by
      refine x_iconst dX13_expression_181 ?_
      refine x_goto (tgt := 186) dX13_expression_182 rfl ?_
      refine x_istore_2 dX13_expression_186 rfl ?_
      refine x_iload_2 dX13_expression_187 ?_
      refine x_if_ne (tgt := 210) dX13_expression_188 rfl (by omega) (fun c188 => ?_) (fun c188 => ?_)
      · refine x_aload_0 dX13_expression_210 ?_
        refine x_aload_0 dX13_expression_211 ?_
        refine x_bipush dX13_expression_212 rfl ?_
        refine x_callV1 dX13_expression_214 rfl okX13_is q1839 q1841 qs60 (by first | assumption | (exact MdL.k0 (by assumption))) am_k13 rfl (C_X13_is hR x1 x2 ha ⟨by decide, by decide⟩ (x_k1 ?_))
        rw [q, if_neg (by decide)]
        refine x_if_ne (tgt := 229) dX13_expression_217 rfl (by omega) (fun c217 => ?_) (fun c217 => ?_)
        · refine x_iconst dX13_expression_229 ?_
          refine x_goto (tgt := 234) dX13_expression_230 rfl ?_
          first
          | exact h234
          | exact absurd rfl c217
          | exact absurd rfl c226
          | exact absurd c226 (by decide)
        · refine x_aload_0 dX13_expression_220 ?_
          refine x_bipush dX13_expression_221 rfl ?_
          refine x_callV1 dX13_expression_223 rfl okX13_is q1839 q1841 qs60 (by first | assumption | (exact MdL.k0 (by assumption))) am_k13 rfl (C_X13_is hR x1 x2 ha ⟨by decide, by decide⟩ (x_k1 ?_))
          rw [q, if_neg (by decide)]
          refine x_if_eq (tgt := 233) dX13_expression_226 rfl (by omega) (fun c226 => ?_) (fun c226 => ?_)
          · refine x_iconst dX13_expression_233 ?_
            first
            | exact h234
            | exact absurd rfl c217
            | exact absurd rfl c226
            | exact absurd c226 (by decide)
          · refine x_iconst dX13_expression_229 ?_
            refine x_goto (tgt := 234) dX13_expression_230 rfl ?_
            first
            | exact h234
            | exact absurd rfl c217
            | exact absurd rfl c226
            | exact absurd c226 (by decide)
      · exact absurd c188 (by decide)
    refine x_aload_0 dX13_expression_96 ?_
    refine x_bipush dX13_expression_97 rfl ?_
    refine x_callV1 dX13_expression_99 rfl okX13_is q1839 q1841 qs60 (by first | assumption | (exact MdL.k0 (by assumption))) am_k13 rfl (C_X13_is hR x1 x2 ha ⟨by decide, by decide⟩ (x_k1 ?_))
    rw [q, if_neg (by decide)]
    refine x_if_eq (tgt := 145) dX13_expression_102 rfl (by omega) (fun c102 => ?_) (fun c102 => ?_)
    · refine x_aload_0 dX13_expression_145 ?_
      refine x_bipush dX13_expression_146 rfl ?_
      refine x_callV1 dX13_expression_148 rfl okX13_is q1839 q1841 qs60 (by first | assumption | (exact MdL.k0 (by assumption))) am_k13 rfl (C_X13_is hR x1 x2 ha ⟨by decide, by decide⟩ (x_k1 ?_))
      rw [q, if_pos rfl]
      refine x_if_ne (tgt := 181) dX13_expression_151 rfl (by omega) (fun c151 => ?_) (fun c151 => ?_)
      · first
        | exact h181
        | exact absurd rfl c151
        | exact absurd rfl c160
        | exact absurd rfl c169
      · exact absurd c151 (by decide)
    · exact absurd rfl c102
  · have hg0 : g = 0 := by rw [hg, if_neg (by omega)]
    subst hg0
    have h234 : am_X G mX13_expression (d + 5) 234 [aR o, aI base, aI 1] [aI 0, aR o] L h Q := by
      refine x_callV1 dX13_expression_234 rfl okX13_comesOut q1903 q1905 qs76 (by first | assumption | (exact MdL.k0 (by assumption))) am_k13 rfl hco
      skip
    have h181 : am_X G mX13_expression (d + 5) 181 [aR o, aI base, aI 1] [] L h Q := by
      refine x_iconst dX13_expression_181 ?_
      refine x_goto (tgt := 186) dX13_expression_182 rfl ?_
      refine x_istore_2 dX13_expression_186 rfl ?_
      refine x_iload_2 dX13_expression_187 ?_
      refine x_if_ne (tgt := 210) dX13_expression_188 rfl (by omega) (fun c188 => ?_) (fun c188 => ?_)
      · refine x_aload_0 dX13_expression_210 ?_
        refine x_aload_0 dX13_expression_211 ?_
        refine x_bipush dX13_expression_212 rfl ?_
        refine x_callV1 dX13_expression_214 rfl okX13_is q1839 q1841 qs60 (by first | assumption | (exact MdL.k0 (by assumption))) am_k13 rfl (C_X13_is hR x1 x2 ha ⟨by decide, by decide⟩ (x_k1 ?_))
        rw [q, if_neg (by decide)]
        refine x_if_ne (tgt := 229) dX13_expression_217 rfl (by omega) (fun c217 => ?_) (fun c217 => ?_)
        · refine x_iconst dX13_expression_229 ?_
          refine x_goto (tgt := 234) dX13_expression_230 rfl ?_
          first
          | exact h234
          | exact absurd rfl c217
          | exact absurd rfl c226
          | exact absurd c226 (by decide)
        · refine x_aload_0 dX13_expression_220 ?_
          refine x_bipush dX13_expression_221 rfl ?_
          refine x_callV1 dX13_expression_223 rfl okX13_is q1839 q1841 qs60 (by first | assumption | (exact MdL.k0 (by assumption))) am_k13 rfl (C_X13_is hR x1 x2 ha ⟨by decide, by decide⟩ (x_k1 ?_))
          rw [q, if_neg (by decide)]
          refine x_if_eq (tgt := 233) dX13_expression_226 rfl (by omega) (fun c226 => ?_) (fun c226 => ?_)
          · refine x_iconst dX13_expression_233 ?_
            first
            | exact h234
            | exact absurd rfl c217
            | exact absurd rfl c226
            | exact absurd c226 (by decide)
          · refine x_iconst dX13_expression_229 ?_
            refine x_goto (tgt := 234) dX13_expression_230 rfl ?_
            first
            | exact h234
            | exact absurd rfl c217
            | exact absurd rfl c226
            | exact absurd c226 (by decide)
      · exact absurd c188 (by decide)
    refine x_aload_0 dX13_expression_96 ?_
    refine x_bipush dX13_expression_97 rfl ?_
    refine x_callV1 dX13_expression_99 rfl okX13_is q1839 q1841 qs60 (by first | assumption | (exact MdL.k0 (by assumption))) am_k13 rfl (C_X13_is hR x1 x2 ha ⟨by decide, by decide⟩ (x_k1 ?_))
    rw [q, if_neg (by decide)]
    refine x_if_eq (tgt := 145) dX13_expression_102 rfl (by omega) (fun c102 => ?_) (fun c102 => ?_)
    · refine x_aload_0 dX13_expression_145 ?_
      refine x_bipush dX13_expression_146 rfl ?_
      refine x_callV1 dX13_expression_148 rfl okX13_is q1839 q1841 qs60 (by first | assumption | (exact MdL.k0 (by assumption))) am_k13 rfl (C_X13_is hR x1 x2 ha ⟨by decide, by decide⟩ (x_k1 ?_))
      rw [q, if_neg (by decide)]
      refine x_if_ne (tgt := 181) dX13_expression_151 rfl (by omega) (fun c151 => ?_) (fun c151 => ?_)
      · first
        | exact h181
        | exact absurd rfl c151
        | exact absurd rfl c160
        | exact absurd rfl c169
      · refine x_aload_0 dX13_expression_154 ?_
        refine x_bipush dX13_expression_155 rfl ?_
        refine x_callV1 dX13_expression_157 rfl okX13_is q1839 q1841 qs60 (by first | assumption | (exact MdL.k0 (by assumption))) am_k13 rfl (C_X13_is hR x1 x2 ha ⟨by decide, by decide⟩ (x_k1 ?_))
        rw [q, if_pos rfl]
        refine x_if_ne (tgt := 181) dX13_expression_160 rfl (by omega) (fun c160 => ?_) (fun c160 => ?_)
        · first
          | exact h181
          | exact absurd rfl c151
          | exact absurd rfl c160
          | exact absurd rfl c169
        · exact absurd c160 (by decide)
    · exact absurd rfl c102
  · have hg0 : g = 1 := by rw [hg, if_pos (by omega)]
    subst hg0
    have h234 : am_X G mX13_expression (d + 5) 234 [aR o, aI base, aI 1] [aI 1, aR o] L h Q := by
      refine x_callV1 dX13_expression_234 rfl okX13_comesOut q1903 q1905 qs76 (by first | assumption | (exact MdL.k0 (by assumption))) am_k13 rfl hco
      skip
    have h181 : am_X G mX13_expression (d + 5) 181 [aR o, aI base, aI 1] [] L h Q := by
      refine x_iconst dX13_expression_181 ?_
      refine x_goto (tgt := 186) dX13_expression_182 rfl ?_
      refine x_istore_2 dX13_expression_186 rfl ?_
      refine x_iload_2 dX13_expression_187 ?_
      refine x_if_ne (tgt := 210) dX13_expression_188 rfl (by omega) (fun c188 => ?_) (fun c188 => ?_)
      · refine x_aload_0 dX13_expression_210 ?_
        refine x_aload_0 dX13_expression_211 ?_
        refine x_bipush dX13_expression_212 rfl ?_
        refine x_callV1 dX13_expression_214 rfl okX13_is q1839 q1841 qs60 (by first | assumption | (exact MdL.k0 (by assumption))) am_k13 rfl (C_X13_is hR x1 x2 ha ⟨by decide, by decide⟩ (x_k1 ?_))
        rw [q, if_pos rfl]
        refine x_if_ne (tgt := 229) dX13_expression_217 rfl (by omega) (fun c217 => ?_) (fun c217 => ?_)
        · refine x_iconst dX13_expression_229 ?_
          refine x_goto (tgt := 234) dX13_expression_230 rfl ?_
          first
          | exact h234
          | exact absurd rfl c217
          | exact absurd rfl c226
          | exact absurd c226 (by decide)
        · exact absurd c217 (by decide)
      · exact absurd c188 (by decide)
    refine x_aload_0 dX13_expression_96 ?_
    refine x_bipush dX13_expression_97 rfl ?_
    refine x_callV1 dX13_expression_99 rfl okX13_is q1839 q1841 qs60 (by first | assumption | (exact MdL.k0 (by assumption))) am_k13 rfl (C_X13_is hR x1 x2 ha ⟨by decide, by decide⟩ (x_k1 ?_))
    rw [q, if_neg (by decide)]
    refine x_if_eq (tgt := 145) dX13_expression_102 rfl (by omega) (fun c102 => ?_) (fun c102 => ?_)
    · refine x_aload_0 dX13_expression_145 ?_
      refine x_bipush dX13_expression_146 rfl ?_
      refine x_callV1 dX13_expression_148 rfl okX13_is q1839 q1841 qs60 (by first | assumption | (exact MdL.k0 (by assumption))) am_k13 rfl (C_X13_is hR x1 x2 ha ⟨by decide, by decide⟩ (x_k1 ?_))
      rw [q, if_neg (by decide)]
      refine x_if_ne (tgt := 181) dX13_expression_151 rfl (by omega) (fun c151 => ?_) (fun c151 => ?_)
      · first
        | exact h181
        | exact absurd rfl c151
        | exact absurd rfl c160
        | exact absurd rfl c169
      · refine x_aload_0 dX13_expression_154 ?_
        refine x_bipush dX13_expression_155 rfl ?_
        refine x_callV1 dX13_expression_157 rfl okX13_is q1839 q1841 qs60 (by first | assumption | (exact MdL.k0 (by assumption))) am_k13 rfl (C_X13_is hR x1 x2 ha ⟨by decide, by decide⟩ (x_k1 ?_))
        rw [q, if_neg (by decide)]
        refine x_if_ne (tgt := 181) dX13_expression_160 rfl (by omega) (fun c160 => ?_) (fun c160 => ?_)
        · first
          | exact h181
          | exact absurd rfl c151
          | exact absurd rfl c160
          | exact absurd rfl c169
        · refine x_aload_0 dX13_expression_163 ?_
          refine x_bipush dX13_expression_164 rfl ?_
          refine x_callV1 dX13_expression_166 rfl okX13_is q1839 q1841 qs60 (by first | assumption | (exact MdL.k0 (by assumption))) am_k13 rfl (C_X13_is hR x1 x2 ha ⟨by decide, by decide⟩ (x_k1 ?_))
          rw [q, if_pos rfl]
          refine x_if_ne (tgt := 181) dX13_expression_169 rfl (by omega) (fun c169 => ?_) (fun c169 => ?_)
          · first
            | exact h181
            | exact absurd rfl c151
            | exact absurd rfl c160
            | exact absurd rfl c169
          · exact absurd c169 (by decide)
    · exact absurd rfl c102
  · have hg0 : g = 1 := by rw [hg, if_pos (by omega)]
    subst hg0
    have h234 : am_X G mX13_expression (d + 5) 234 [aR o, aI base, aI 1] [aI 1, aR o] L h Q := by
      refine x_callV1 dX13_expression_234 rfl okX13_comesOut q1903 q1905 qs76 (by first | assumption | (exact MdL.k0 (by assumption))) am_k13 rfl hco
      skip
    have h181 : am_X G mX13_expression (d + 5) 181 [aR o, aI base, aI 1] [] L h Q := by
      refine x_iconst dX13_expression_181 ?_
      refine x_goto (tgt := 186) dX13_expression_182 rfl ?_
      refine x_istore_2 dX13_expression_186 rfl ?_
      refine x_iload_2 dX13_expression_187 ?_
      refine x_if_ne (tgt := 210) dX13_expression_188 rfl (by omega) (fun c188 => ?_) (fun c188 => ?_)
      · refine x_aload_0 dX13_expression_210 ?_
        refine x_aload_0 dX13_expression_211 ?_
        refine x_bipush dX13_expression_212 rfl ?_
        refine x_callV1 dX13_expression_214 rfl okX13_is q1839 q1841 qs60 (by first | assumption | (exact MdL.k0 (by assumption))) am_k13 rfl (C_X13_is hR x1 x2 ha ⟨by decide, by decide⟩ (x_k1 ?_))
        rw [q, if_neg (by decide)]
        refine x_if_ne (tgt := 229) dX13_expression_217 rfl (by omega) (fun c217 => ?_) (fun c217 => ?_)
        · refine x_iconst dX13_expression_229 ?_
          refine x_goto (tgt := 234) dX13_expression_230 rfl ?_
          first
          | exact h234
          | exact absurd rfl c217
          | exact absurd rfl c226
          | exact absurd c226 (by decide)
        · refine x_aload_0 dX13_expression_220 ?_
          refine x_bipush dX13_expression_221 rfl ?_
          refine x_callV1 dX13_expression_223 rfl okX13_is q1839 q1841 qs60 (by first | assumption | (exact MdL.k0 (by assumption))) am_k13 rfl (C_X13_is hR x1 x2 ha ⟨by decide, by decide⟩ (x_k1 ?_))
          rw [q, if_pos rfl]
          refine x_if_eq (tgt := 233) dX13_expression_226 rfl (by omega) (fun c226 => ?_) (fun c226 => ?_)
          · refine x_iconst dX13_expression_233 ?_
            first
            | exact h234
            | exact absurd rfl c217
            | exact absurd rfl c226
            | exact absurd c226 (by decide)
          · refine x_iconst dX13_expression_229 ?_
            refine x_goto (tgt := 234) dX13_expression_230 rfl ?_
            first
            | exact h234
            | exact absurd rfl c217
            | exact absurd rfl c226
            | exact absurd c226 (by decide)
      · exact absurd c188 (by decide)
    refine x_aload_0 dX13_expression_96 ?_
    refine x_bipush dX13_expression_97 rfl ?_
    refine x_callV1 dX13_expression_99 rfl okX13_is q1839 q1841 qs60 (by first | assumption | (exact MdL.k0 (by assumption))) am_k13 rfl (C_X13_is hR x1 x2 ha ⟨by decide, by decide⟩ (x_k1 ?_))
    rw [q, if_neg (by decide)]
    refine x_if_eq (tgt := 145) dX13_expression_102 rfl (by omega) (fun c102 => ?_) (fun c102 => ?_)
    · refine x_aload_0 dX13_expression_145 ?_
      refine x_bipush dX13_expression_146 rfl ?_
      refine x_callV1 dX13_expression_148 rfl okX13_is q1839 q1841 qs60 (by first | assumption | (exact MdL.k0 (by assumption))) am_k13 rfl (C_X13_is hR x1 x2 ha ⟨by decide, by decide⟩ (x_k1 ?_))
      rw [q, if_neg (by decide)]
      refine x_if_ne (tgt := 181) dX13_expression_151 rfl (by omega) (fun c151 => ?_) (fun c151 => ?_)
      · first
        | exact h181
        | exact absurd rfl c151
        | exact absurd rfl c160
        | exact absurd rfl c169
      · refine x_aload_0 dX13_expression_154 ?_
        refine x_bipush dX13_expression_155 rfl ?_
        refine x_callV1 dX13_expression_157 rfl okX13_is q1839 q1841 qs60 (by first | assumption | (exact MdL.k0 (by assumption))) am_k13 rfl (C_X13_is hR x1 x2 ha ⟨by decide, by decide⟩ (x_k1 ?_))
        rw [q, if_neg (by decide)]
        refine x_if_ne (tgt := 181) dX13_expression_160 rfl (by omega) (fun c160 => ?_) (fun c160 => ?_)
        · first
          | exact h181
          | exact absurd rfl c151
          | exact absurd rfl c160
          | exact absurd rfl c169
        · refine x_aload_0 dX13_expression_163 ?_
          refine x_bipush dX13_expression_164 rfl ?_
          refine x_callV1 dX13_expression_166 rfl okX13_is q1839 q1841 qs60 (by first | assumption | (exact MdL.k0 (by assumption))) am_k13 rfl (C_X13_is hR x1 x2 ha ⟨by decide, by decide⟩ (x_k1 ?_))
          rw [q, if_neg (by decide)]
          refine x_if_ne (tgt := 181) dX13_expression_169 rfl (by omega) (fun c169 => ?_) (fun c169 => ?_)
          · first
            | exact h181
            | exact absurd rfl c151
            | exact absurd rfl c160
            | exact absurd rfl c169
          · refine x_aload_0 dX13_expression_172 ?_
            refine x_bipush dX13_expression_173 rfl ?_
            refine x_callV1 dX13_expression_175 rfl okX13_is q1839 q1841 qs60 (by first | assumption | (exact MdL.k0 (by assumption))) am_k13 rfl (C_X13_is hR x1 x2 ha ⟨by decide, by decide⟩ (x_k1 ?_))
            rw [q, if_pos rfl]
            refine x_if_eq (tgt := 185) dX13_expression_178 rfl (by omega) (fun c178 => ?_) (fun c178 => ?_)
            · exact absurd c178 (by decide)
            · first
              | exact h181
              | exact absurd rfl c151
              | exact absurd rfl c160
              | exact absurd rfl c169
    · exact absurd rfl c102
/-- the sign waits -/
theorem ex_push (hs : 0 ≤ s ∧ s ≤ 1) (hst : ST L h0 o s c0 base D N b h a op c w) (hw : w ≤ 62) (k1 : a < 400 → XE G d L Q o base 23 (am_st (am_st (am_st h (o + 34) w (sK b D a)) o 51 (w + 1)) o 11 (a + 1))) (k2 : 400 ≤ a → ∀ h', FrE h0 h' o s c0 0 → FT h' o 2 (sP b D a) → Q (.inl []) L h') : am_X G mX13_expression (d + 5) 237 [aR o, aI base, aI 1] [] L h Q := by
  obtain ⟨g1, g2, hR, ⟨x1, x2, x3, x4, x5⟩, ha, hop, hw0, hcw⟩ := hst
  have hL := hR.ml
  have ha0 := ha.1
  have ha4 := ha.2
  have e3 := (hR.tk ha).1
  have hrg : 0 ≤ sK b D a ∧ sK b D a ≤ 36 := tkK_rg b D _
  have f1 : am_st (am_st h (o + 34) w (sK b D a)) o 51 (w + 1) o 13 = 0 := by simp (disch := omega) only [am_st_i, am_st_o, am_st_s]; exact x1
  have f2 : am_st (am_st h (o + 34) w (sK b D a)) o 51 (w + 1) o 11 = a := by simp (disch := omega) only [am_st_i, am_st_o, am_st_s]; exact x2
  have hR2 : RdM L (am_st (am_st h (o + 34) w (sK b D a)) o 51 (w + 1)) o b D N := hR.fe (s := s) (c := c0) (w := 0) (((FrE.rf h o s c0 0).ws hw0).st (by omega))
  have g3 : FrE h0 (am_st (am_st h (o + 34) w (sK b D a)) o 51 (w + 1)) o s c0 0 := (g1.ws hw0).st (by omega)
  by_cases q4 : a < 400
  · have f3 : am_st (am_st (am_st h (o + 34) w (sK b D a)) o 51 (w + 1)) o 11 (a + 1) o 13 = 0 := by rw [am_st_i (by decide)]; exact f1
    refine x_aload_0 dX13_expression_237 ?_
    refine x_getR dX13_expression_238 fl1624_13 rfl (by first | (exact MdL.k0 (by assumption)) | (assumption)) (by first | (exact MdL.v_waits (by assumption)) | (assumption)) ?_
    refine x_aload_0 dX13_expression_241 ?_
    refine x_getI_ dX13_expression_242 fl1625_13 (by first | (exact MdL.k0 (by assumption)) | (assumption)) (fun r242 => ?_)
    simp (disch := omega) only [am_st_o, x5] at r242 ⊢
    refine x_aload_0 dX13_expression_245 ?_
    refine x_getR dX13_expression_246 fl1579_13 rfl (by first | (exact MdL.k0 (by assumption)) | (assumption)) (by first | (exact MdL.v_tKind (by assumption)) | (assumption)) ?_
    refine x_aload_0 dX13_expression_249 ?_
    refine x_getI_ dX13_expression_250 fl1585_13 (by first | (exact MdL.k0 (by assumption)) | (assumption)) (fun r250 => ?_)
    rw [x2] at r250 ⊢
    refine x_iald_ dX13_expression_253 (by first | (exact MdL.k_tKind (by assumption)) | (assumption)) (by first | (exact MdL.x_tKind (by assumption) (by omega) (by omega)) | (omega)) (fun r253 => ?_)
    rw [e3] at r253 ⊢
    refine x_iast_ dX13_expression_254 (by first | (exact MdL.k_waits (by assumption)) | (assumption)) (by first | (exact MdL.x_waits (by assumption) (by omega) (by omega)) | (omega)) (by omega) ?_
    refine x_aload_0 dX13_expression_255 ?_
    refine x_dup dX13_expression_256 rfl ?_
    refine x_getI_ dX13_expression_257 fl1625_13 (by first | (exact MdL.k0 (by assumption)) | (assumption)) (fun r257 => ?_)
    simp (disch := omega) only [am_st_o, x5] at r257 ⊢
    refine x_iconst dX13_expression_260 ?_
    refine x_iadd dX13_expression_261 ?_
    refine x_putI_ dX13_expression_262 fl1625_13 (by first | (exact MdL.k0 (by assumption)) | (assumption)) (by omega) ?_
    refine x_aload_0 dX13_expression_265 ?_
    refine x_callV0 dX13_expression_266 rfl okX13_goesOn q1847 q1849 qs62 (by first | assumption | (exact MdL.k0 (by assumption))) am_k13 rfl (C_X13_goesOn hR2 f1 f2 ha (fun z => (x_k0 ?_)) (fun z => by exfalso; omega))
    refine x_goto (tgt := 12) dX13_expression_269 rfl ?_
    skip
    refine x_iload_2 dX13_expression_12 ?_
    refine x_if_eq (tgt := 272) dX13_expression_13 rfl (by omega) (fun c13 => ?_) (fun c13 => ?_)
    · first
      | exact absurd c13 (by decide)
      | exact absurd rfl c20
    · refine x_aload_0 dX13_expression_16 ?_
      refine x_getI_ dX13_expression_17 fl1587_13 (by first | (exact MdL.k0 (by assumption)) | (assumption)) (fun r17 => ?_)
      rw [f3] at r17 ⊢
      refine x_if_ne (tgt := 272) dX13_expression_20 rfl (by omega) (fun c20 => ?_) (fun c20 => ?_)
      · first
        | exact absurd c13 (by decide)
        | exact absurd rfl c20
      · exact k1 q4
  · have f3 : failH (am_st (am_st h (o + 34) w (sK b D a)) o 51 (w + 1)) o 2 (sP b D a) o 13 = 2 := by unfold failH; rw [am_st_i (by decide), am_st_s]
    have f4 : failH (am_st (am_st h (o + 34) w (sK b D a)) o 51 (w + 1)) o 2 (sP b D a) o 14 = sP b D a := by unfold failH; rw [am_st_s]
    have f5 : failH (am_st (am_st h (o + 34) w (sK b D a)) o 51 (w + 1)) o 2 (sP b D a) o 11 = a := by unfold failH; rw [am_st_i (by decide), am_st_i (by decide)]; exact f2
    refine x_aload_0 dX13_expression_237 ?_
    refine x_getR dX13_expression_238 fl1624_13 rfl (by first | (exact MdL.k0 (by assumption)) | (assumption)) (by first | (exact MdL.v_waits (by assumption)) | (assumption)) ?_
    refine x_aload_0 dX13_expression_241 ?_
    refine x_getI_ dX13_expression_242 fl1625_13 (by first | (exact MdL.k0 (by assumption)) | (assumption)) (fun r242 => ?_)
    simp (disch := omega) only [am_st_o, x5] at r242 ⊢
    refine x_aload_0 dX13_expression_245 ?_
    refine x_getR dX13_expression_246 fl1579_13 rfl (by first | (exact MdL.k0 (by assumption)) | (assumption)) (by first | (exact MdL.v_tKind (by assumption)) | (assumption)) ?_
    refine x_aload_0 dX13_expression_249 ?_
    refine x_getI_ dX13_expression_250 fl1585_13 (by first | (exact MdL.k0 (by assumption)) | (assumption)) (fun r250 => ?_)
    rw [x2] at r250 ⊢
    refine x_iald_ dX13_expression_253 (by first | (exact MdL.k_tKind (by assumption)) | (assumption)) (by first | (exact MdL.x_tKind (by assumption) (by omega) (by omega)) | (omega)) (fun r253 => ?_)
    rw [e3] at r253 ⊢
    refine x_iast_ dX13_expression_254 (by first | (exact MdL.k_waits (by assumption)) | (assumption)) (by first | (exact MdL.x_waits (by assumption) (by omega) (by omega)) | (omega)) (by omega) ?_
    refine x_aload_0 dX13_expression_255 ?_
    refine x_dup dX13_expression_256 rfl ?_
    refine x_getI_ dX13_expression_257 fl1625_13 (by first | (exact MdL.k0 (by assumption)) | (assumption)) (fun r257 => ?_)
    simp (disch := omega) only [am_st_o, x5] at r257 ⊢
    refine x_iconst dX13_expression_260 ?_
    refine x_iadd dX13_expression_261 ?_
    refine x_putI_ dX13_expression_262 fl1625_13 (by first | (exact MdL.k0 (by assumption)) | (assumption)) (by omega) ?_
    refine x_aload_0 dX13_expression_265 ?_
    refine x_callV0 dX13_expression_266 rfl okX13_goesOn q1847 q1849 qs62 (by first | assumption | (exact MdL.k0 (by assumption))) am_k13 rfl (C_X13_goesOn hR2 f1 f2 ha (fun z => by exfalso; omega) (fun z => (x_k0 ?_)))
    refine x_goto (tgt := 12) dX13_expression_269 rfl ?_
    exact exFlt12 hL (by rw [f3]; decide) (k2 (by omega) _ ((g3.st (by omega)).st (by omega)) ⟨f3, f4, by rw [f5]; omega, Or.inr rfl⟩)
end MSUM
