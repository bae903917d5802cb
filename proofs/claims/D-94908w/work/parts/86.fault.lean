/-! CONSTRUCTORS: the Fault's -/
set_option maxRecDepth 100000
section AMFAULT
variable {G : am_G} {L : am_L} {h : am_H} {d : Nat} {Q : am_O → am_L → am_H → Prop}
theorem st_ne {h : am_H} {a j v b i : Int} (hb : b ≠ a) : am_st h a j v b i = h b i := if_neg (fun q => hb q.1)
theorem C_J0_init_2 {b w : Int} (hk : kd L b = 1) (k : ∀ h' : am_H, (∀ a j, a ≠ b → h' a j = h a j) → Q (.inl []) L h') : am_C G mJ0_init_2 (d + 1) [aR b, aR w, aR 0, aI 0, aI 0] L h Q := by
  refine x_start okJ0_init_2 rfl rfl rfl rfl ?_
  refine x_aload_0 dJ0_init_2_0 ?_
  refine x_objInit dJ0_init_2_1 q185 q158 q159 (by omega) rfl ?_
  refine x_aload_0 dJ0_init_2_4 ?_
  refine x_aload_0 dJ0_init_2_5 ?_
  refine x_putW dJ0_init_2_6 fl218_1 rfl (by assumption) trivial ?_
  refine x_aload_0 dJ0_init_2_9 ?_
  refine x_gets dJ0_init_2_10 q186 am_z3 ?_
  refine x_putW dJ0_init_2_13 fl219_1 rfl (by assumption) trivial ?_
  refine x_aload_0 dJ0_init_2_16 ?_
  refine x_gets dJ0_init_2_17 q188 am_z4 ?_
  refine x_putW dJ0_init_2_20 fl220_1 rfl (by assumption) trivial ?_
  refine x_iload4 dJ0_init_2_23 ?_
  refine x_if_eq (tgt := 36) dJ0_init_2_25 rfl (by omega) (fun c25 => ?_) (fun c25 => ?_)
  · refine x_aload_0 dJ0_init_2_36 ?_
    refine x_null dJ0_init_2_37 ?_
    refine x_putW dJ0_init_2_38 fl219_1 rfl (by assumption) trivial ?_
    refine x_aload_0 dJ0_init_2_41 ?_
    refine x_aload_1 dJ0_init_2_42 ?_
    refine x_putW dJ0_init_2_43 fl217_1 rfl (by assumption) trivial ?_
    refine x_aload_0 dJ0_init_2_46 ?_
    refine x_aload_2 dJ0_init_2_47 ?_
    refine x_putW dJ0_init_2_48 fl218_1 rfl (by assumption) trivial ?_
    refine x_iload_3 dJ0_init_2_51 ?_
    refine x_if_ne (tgt := 60) dJ0_init_2_52 rfl (by omega) (fun c52 => ?_) (fun c52 => ?_)
    · refine x_ret dJ0_init_2_60 rfl ?_
      exact k _ (fun a j ha => by repeat rw [st_ne ha])
    · refine x_aload_0 dJ0_init_2_55 ?_
      refine x_null dJ0_init_2_56 ?_
      refine x_putW dJ0_init_2_57 fl220_1 rfl (by assumption) trivial ?_
      refine x_ret dJ0_init_2_60 rfl ?_
      exact k _ (fun a j ha => by repeat rw [st_ne ha])
  · exact absurd rfl c25
theorem C_J1_init {b w : Int} (hk : kd L b = 1) (k : ∀ h' : am_H, (∀ a j, a ≠ b → h' a j = h a j) → Q (.inl []) L h') : am_C G mJ1_init (d + 2) [aR b, aR w, aR 0, aI 0, aI 0] L h Q := by
  refine x_start okJ1_init rfl rfl rfl rfl ?_
  refine x_aload_0 dJ1_init_0 ?_
  refine x_aload_1 dJ1_init_1 ?_
  refine x_aload_2 dJ1_init_2 ?_
  refine x_iload_3 dJ1_init_3 ?_
  refine x_iload4 dJ1_init_4 ?_
  refine x_callI4 dJ1_init_6 rfl okJ0_init_2 rfl rfl q209 q210 (by omega) rfl (C_J0_init_2 hk (fun h1 q1 => (x_k0 ?_)))
  refine x_ret dJ1_init_9 rfl ?_
  exact k _ q1
theorem C_J2_init {b w : Int} (hk : kd L b = 1) (k : ∀ h' : am_H, (∀ a j, a ≠ b → h' a j = h a j) → Q (.inl []) L h') : am_C G mJ2_init (d + 3) [aR b, aR w, aR 0, aI 0, aI 0] L h Q := by
  refine x_start okJ2_init rfl rfl rfl rfl ?_
  refine x_aload_0 dJ2_init_0 ?_
  refine x_aload_1 dJ2_init_1 ?_
  refine x_aload_2 dJ2_init_2 ?_
  refine x_iload_3 dJ2_init_3 ?_
  refine x_iload4 dJ2_init_4 ?_
  refine x_callI4 dJ2_init_6 rfl okJ1_init rfl rfl q206 q207 (by omega) rfl (C_J1_init hk (fun h1 q1 => (x_k0 ?_)))
  refine x_ret dJ2_init_9 rfl ?_
  exact k _ q1
theorem C_X1_init {b : Int} (hk : kd L b = 1) (k : ∀ h' : am_H, (∀ a j, a ≠ b → h' a j = h a j) → Q (.inl []) L h') : am_C G mX1_init (d + 4) [aR b] L h Q := by
  refine x_start okX1_init rfl rfl rfl rfl ?_
  refine x_aload_0 dX1_init_0 ?_
  refine x_ldcS (a := 10) (tx := "") dX1_init_1 (show ("ThreadTown$Fault", 1, "", 10) ∈ am_ks by simp [am_ks]) (by decide) ?_
  refine x_null dX1_init_3 ?_
  refine x_iconst dX1_init_4 ?_
  refine x_iconst dX1_init_5 ?_
  refine x_callI4 dX1_init_6 rfl okJ2_init rfl rfl q203 q204 (by omega) rfl (C_J2_init hk (fun h1 q1 => (x_k0 ?_)))
  refine x_ret dX1_init_9 rfl ?_
  exact k _ q1
end AMFAULT
