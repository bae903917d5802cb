/-! ArrayList: size, get -/
set_option maxRecDepth 100000
/-- the list at l holds f 0 .. f (n - 1) -/
def LsL (L : am_L) (l n : Int) (f : Int → Int) : Prop := kd L l = 20 ∧ fF L l 2 = n ∧ 0 ≤ n ∧ kd L (fF L l 1) = 116 ∧ n ≤ ln L (fF L l 1) ∧ ∀ i, 0 ≤ i → i < n → fF L (fF L l 1) i = f i
section LIST
variable {G : am_G} {d : Nat} {L : am_L} {h : am_H} {Q : am_O → am_L → am_H → Prop}
theorem C_J5_size {l n : Int} {f : Int → Int} (hl : LsL L l n f) (k : Q (.inl [aI n]) L h) : am_C G mJ5_size (d + 1) [aR l] L h Q := by
  obtain ⟨k0, f2, h0, k1, h1, h2⟩ := hl
  refine x_start okJ5_size rfl rfl rfl rfl ?_
  refine x_aload_0 dJ5_size_0 ?_
  refine x_getKI dJ5_size_1 fl339_20 (by first | (exact TxL.kl (by assumption)) | (assumption)) (by assumption) (fun r1 => ?_)
  refine x_iret dJ5_size_4 rfl ?_
  exact k
theorem C_J7_checkIndex {i n : Int} (hi : 0 ≤ i ∧ i < n) (hn : n ≤ 2147483647) (k : Q (.inl [aI i]) L h) : am_C G mJ7_checkIndex (d + 1) [aI i, aI n, aR 0] L h Q := by
  refine x_start okJ7_checkIndex rfl rfl rfl rfl ?_
  refine x_iload_0 dJ7_checkIndex_0 ?_
  refine x_if_lt (tgt := 9) dJ7_checkIndex_1 rfl (by omega) (fun c1 => ?_) (fun c1 => ?_)
  · exfalso; omega
  · refine x_iload_0 dJ7_checkIndex_4 ?_
    refine x_iload_1 dJ7_checkIndex_5 ?_
    refine x_icmp_lt (tgt := 16) dJ7_checkIndex_6 rfl (by omega) (by omega) (fun c6 => ?_) (fun c6 => ?_)
    · refine x_iload_0 dJ7_checkIndex_16 ?_
      refine x_iret dJ7_checkIndex_17 rfl ?_
      exact k
    · exfalso; omega
theorem C_J6_checkIndex {i n : Int} (hi : 0 ≤ i ∧ i < n) (hn : n ≤ 2147483647) (k : Q (.inl [aI i]) L h) : am_C G mJ6_checkIndex (d + 2) [aI i, aI n] L h Q := by
  refine x_start okJ6_checkIndex rfl rfl rfl rfl ?_
  refine x_iload_0 dJ6_checkIndex_0 ?_
  refine x_iload_1 dJ6_checkIndex_1 ?_
  refine x_null dJ6_checkIndex_2 ?_
  refine x_callS3 dJ6_checkIndex_3 rfl okJ7_checkIndex q536 q537 rfl (C_J7_checkIndex hi hn (x_k1 ?_))
  refine x_iret dJ6_checkIndex_6 rfl ?_
  exact k
theorem C_J5_elementData {l n i : Int} {f : Int → Int} (hl : LsL L l n f) (hi : 0 ≤ i ∧ i < n) (k : Q (.inl [aR (f i)]) L h) : am_C G mJ5_elementData (d + 1) [aR l, aI i] L h Q := by
  obtain ⟨k0, f2, h0, k1, h1, h2⟩ := hl
  refine x_start okJ5_elementData rfl rfl rfl rfl ?_
  refine x_aload_0 dJ5_elementData_0 ?_
  refine x_getR dJ5_elementData_1 fl338_20 rfl (by first | (exact TxL.kl (by assumption)) | (assumption)) (by rfl) ?_
  refine x_iload_1 dJ5_elementData_4 ?_
  refine x_aald dJ5_elementData_5 (by assumption) (by decide) (by decide) (by omega) (by exact h2 i hi.1 hi.2) ?_
  refine x_aret dJ5_elementData_6 rfl ?_
  exact k
theorem C_J5_get {l n i : Int} {f : Int → Int} (hl : LsL L l n f) (hi : 0 ≤ i ∧ i < n) (k : Q (.inl [aR (f i)]) L h) : am_C G mJ5_get (d + 3) [aR l, aI i] L h Q := by
  have hl2 := hl
  obtain ⟨k0, f2, h0, k1, h1, h2⟩ := hl
  refine x_start okJ5_get rfl rfl rfl rfl ?_
  refine x_iload_1 dJ5_get_0 ?_
  refine x_aload_0 dJ5_get_1 ?_
  refine x_getKI dJ5_get_2 fl339_20 (by first | (exact TxL.kl (by assumption)) | (assumption)) (by assumption) (fun r2 => ?_)
  refine x_callS2 dJ5_get_5 rfl okJ6_checkIndex q533 q534 rfl (C_J6_checkIndex hi r2.2 (x_k1 ?_))
  refine x_pop dJ5_get_8 rfl ?_
  refine x_aload_0 dJ5_get_9 ?_
  refine x_iload_1 dJ5_get_10 ?_
  refine x_callV1 dJ5_get_11 rfl okJ5_elementData q539 q540 q541 (by first | assumption | (exact TxL.kl (by assumption))) am_k20 rfl (C_J5_elementData hl2 hi (x_k1 ?_))
  refine x_aret dJ5_get_14 rfl ?_
  exact k
end LIST
