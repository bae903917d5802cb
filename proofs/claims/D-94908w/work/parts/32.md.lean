/-! THE TWIN, as it lies: the object at o, its arrays behind it (printed by tools/gen_md.py) -/
set_option maxRecDepth 100000
def MdL (L : am_L) (o : Int) : Prop := kd L o = 13 ∧ (fF L o 1 = o + 1 ∧ kd L (o + 1) = 101 ∧ ln L (o + 1) = 2000) ∧ (fF L o 3 = o + 2 ∧ kd L (o + 2) = 101 ∧ ln L (o + 2) = 2000) ∧ (fF L o 5 = o + 3 ∧ kd L (o + 3) = 100 ∧ ln L (o + 3) = 403) ∧ (fF L o 6 = o + 4 ∧ kd L (o + 4) = 100 ∧ ln L (o + 4) = 403) ∧ (fF L o 7 = o + 5 ∧ kd L (o + 5) = 100 ∧ ln L (o + 5) = 403) ∧ (fF L o 8 = o + 6 ∧ kd L (o + 6) = 104 ∧ ln L (o + 6) = 403) ∧ (fF L o 9 = o + 7 ∧ kd L (o + 7) = 104 ∧ ln L (o + 7) = 17) ∧ (fF L o 21 = o + 8 ∧ kd L (o + 8) = 104 ∧ ln L (o + 8) = 7) ∧ (fF L o 22 = o + 9 ∧ kd L (o + 9) = 100 ∧ ln L (o + 9) = 2) ∧ (fF L o 23 = o + 10 ∧ kd L (o + 10) = 100 ∧ ln L (o + 10) = 2) ∧ (fF L o 24 = o + 11 ∧ kd L (o + 11) = 100 ∧ ln L (o + 11) = 2) ∧ (fF L o 25 = o + 12 ∧ kd L (o + 12) = 100 ∧ ln L (o + 12) = 14) ∧ (fF L o 26 = o + 13 ∧ kd L (o + 13) = 100 ∧ ln L (o + 13) = 14) ∧ (fF L o 27 = o + 14 ∧ kd L (o + 14) = 100 ∧ ln L (o + 14) = 14) ∧ (fF L o 28 = o + 15 ∧ kd L (o + 15) = 100 ∧ ln L (o + 15) = 14) ∧ (fF L o 29 = o + 16 ∧ kd L (o + 16) = 100 ∧ ln L (o + 16) = 84) ∧ (fF L o 30 = o + 17 ∧ kd L (o + 17) = 100 ∧ ln L (o + 17) = 84) ∧ (fF L o 31 = o + 18 ∧ kd L (o + 18) = 100 ∧ ln L (o + 18) = 2) ∧ (fF L o 32 = o + 19 ∧ kd L (o + 19) = 100 ∧ ln L (o + 19) = 12) ∧ (fF L o 33 = o + 20 ∧ kd L (o + 20) = 100 ∧ ln L (o + 20) = 12) ∧ (fF L o 34 = o + 21 ∧ kd L (o + 21) = 100 ∧ ln L (o + 21) = 2) ∧ (fF L o 36 = o + 22 ∧ kd L (o + 22) = 100 ∧ ln L (o + 22) = 49) ∧ (fF L o 37 = o + 23 ∧ kd L (o + 23) = 100 ∧ ln L (o + 23) = 49) ∧ (fF L o 38 = o + 24 ∧ kd L (o + 24) = 100 ∧ ln L (o + 24) = 49) ∧ (fF L o 39 = o + 25 ∧ kd L (o + 25) = 100 ∧ ln L (o + 25) = 16) ∧ (fF L o 40 = o + 26 ∧ kd L (o + 26) = 100 ∧ ln L (o + 26) = 16) ∧ (fF L o 42 = o + 27 ∧ kd L (o + 27) = 103 ∧ ln L (o + 27) = 260) ∧ (fF L o 43 = o + 28 ∧ kd L (o + 28) = 100 ∧ ln L (o + 28) = 260) ∧ (fF L o 44 = o + 29 ∧ kd L (o + 29) = 100 ∧ ln L (o + 29) = 260) ∧ (fF L o 45 = o + 30 ∧ kd L (o + 30) = 100 ∧ ln L (o + 30) = 260) ∧ (fF L o 46 = o + 31 ∧ kd L (o + 31) = 100 ∧ ln L (o + 31) = 260) ∧ (fF L o 48 = o + 32 ∧ kd L (o + 32) = 100 ∧ ln L (o + 32) = 840) ∧ (fF L o 49 = o + 33 ∧ kd L (o + 33) = 100 ∧ ln L (o + 33) = 840) ∧ (fF L o 50 = o + 34 ∧ kd L (o + 34) = 100 ∧ ln L (o + 34) = 64) ∧ (fF L o 52 = o + 35 ∧ kd L (o + 35) = 100 ∧ ln L (o + 35) = 6) ∧ (fF L o 53 = o + 36 ∧ kd L (o + 36) = 100 ∧ ln L (o + 36) = 400) ∧ (fF L o 55 = o + 37 ∧ kd L (o + 37) = 100 ∧ ln L (o + 37) = 1290) ∧ (fF L o 56 = o + 38 ∧ kd L (o + 38) = 100 ∧ ln L (o + 38) = 1290) ∧ (fF L o 57 = o + 39 ∧ kd L (o + 39) = 100 ∧ ln L (o + 39) = 7) ∧ (fF L o 59 = o + 40 ∧ kd L (o + 40) = 100 ∧ ln L (o + 40) = 38700) ∧ (fF L o 60 = o + 41 ∧ kd L (o + 41) = 100 ∧ ln L (o + 41) = 7) ∧ (fF L o 61 = o + 42 ∧ kd L (o + 42) = 100 ∧ ln L (o + 42) = 128) ∧ (fF L o 62 = o + 43 ∧ kd L (o + 43) = 100 ∧ ln L (o + 43) = 6) ∧ (fF L o 63 = o + 44 ∧ kd L (o + 44) = 100 ∧ ln L (o + 44) = 6) ∧ (fF L o 66 = o + 45 ∧ kd L (o + 45) = 100 ∧ ln L (o + 45) = 7) ∧ (fF L o 67 = o + 46 ∧ kd L (o + 46) = 100 ∧ ln L (o + 46) = 4032) ∧ (fF L o 68 = o + 47 ∧ kd L (o + 47) = 100 ∧ ln L (o + 47) = 196) ∧ (fF L o 70 = o + 48 ∧ kd L (o + 48) = 100 ∧ ln L (o + 48) = 12) ∧ (fF L o 71 = o + 49 ∧ kd L (o + 49) = 100 ∧ ln L (o + 49) = 12) ∧ (fF L o 72 = o + 50 ∧ kd L (o + 50) = 103 ∧ ln L (o + 50) = 12) ∧ (fF L o 73 = o + 51 ∧ kd L (o + 51) = 103 ∧ ln L (o + 51) = 3) ∧ (fF L o 74 = o + 52 ∧ kd L (o + 52) = 100 ∧ ln L (o + 52) = 3870)
section MDL
variable {L : am_L} {o x : Int}
theorem MdL.k0 (h : MdL L o) : kd L o = 13 := h.1
theorem MdL.v_tape (h : MdL L o) : fF L o 1 = o + 1 := h.2.1.1
theorem MdL.k_tape (h : MdL L o) : kd L (o + 1) = 101 := h.2.1.2.1
theorem MdL.l_tape (h : MdL L o) : ln L (o + 1) = 2000 := h.2.1.2.2
theorem MdL.x_tape (h : MdL L o) (h0 : 0 ≤ x) (h1 : x < 2000) : 0 ≤ x ∧ x < ln L (o + 1) := ⟨h0, by rw [h.l_tape]; exact h1⟩
theorem MdL.v_text (h : MdL L o) : fF L o 3 = o + 2 := h.2.2.1.1
theorem MdL.k_text (h : MdL L o) : kd L (o + 2) = 101 := h.2.2.1.2.1
theorem MdL.l_text (h : MdL L o) : ln L (o + 2) = 2000 := h.2.2.1.2.2
theorem MdL.x_text (h : MdL L o) (h0 : 0 ≤ x) (h1 : x < 2000) : 0 ≤ x ∧ x < ln L (o + 2) := ⟨h0, by rw [h.l_text]; exact h1⟩
theorem MdL.v_tKind (h : MdL L o) : fF L o 5 = o + 3 := h.2.2.2.1.1
theorem MdL.k_tKind (h : MdL L o) : kd L (o + 3) = 100 := h.2.2.2.1.2.1
theorem MdL.l_tKind (h : MdL L o) : ln L (o + 3) = 403 := h.2.2.2.1.2.2
theorem MdL.x_tKind (h : MdL L o) (h0 : 0 ≤ x) (h1 : x < 403) : 0 ≤ x ∧ x < ln L (o + 3) := ⟨h0, by rw [h.l_tKind]; exact h1⟩
theorem MdL.v_tPlace (h : MdL L o) : fF L o 6 = o + 4 := h.2.2.2.2.1.1
theorem MdL.k_tPlace (h : MdL L o) : kd L (o + 4) = 100 := h.2.2.2.2.1.2.1
theorem MdL.l_tPlace (h : MdL L o) : ln L (o + 4) = 403 := h.2.2.2.2.1.2.2
theorem MdL.x_tPlace (h : MdL L o) (h0 : 0 ≤ x) (h1 : x < 403) : 0 ≤ x ∧ x < ln L (o + 4) := ⟨h0, by rw [h.l_tPlace]; exact h1⟩
theorem MdL.v_tValue (h : MdL L o) : fF L o 7 = o + 5 := h.2.2.2.2.2.1.1
theorem MdL.k_tValue (h : MdL L o) : kd L (o + 5) = 100 := h.2.2.2.2.2.1.2.1
theorem MdL.l_tValue (h : MdL L o) : ln L (o + 5) = 403 := h.2.2.2.2.2.1.2.2
theorem MdL.x_tValue (h : MdL L o) (h0 : 0 ≤ x) (h1 : x < 403) : 0 ≤ x ∧ x < ln L (o + 5) := ⟨h0, by rw [h.l_tValue]; exact h1⟩
theorem MdL.v_tName (h : MdL L o) : fF L o 8 = o + 6 := h.2.2.2.2.2.2.1.1
theorem MdL.k_tName (h : MdL L o) : kd L (o + 6) = 104 := h.2.2.2.2.2.2.1.2.1
theorem MdL.l_tName (h : MdL L o) : ln L (o + 6) = 403 := h.2.2.2.2.2.2.1.2.2
theorem MdL.x_tName (h : MdL L o) (h0 : 0 ≤ x) (h1 : x < 403) : 0 ≤ x ∧ x < ln L (o + 6) := ⟨h0, by rw [h.l_tName]; exact h1⟩
theorem MdL.v_keys (h : MdL L o) : fF L o 9 = o + 7 := h.2.2.2.2.2.2.2.1.1
theorem MdL.k_keys (h : MdL L o) : kd L (o + 7) = 104 := h.2.2.2.2.2.2.2.1.2.1
theorem MdL.l_keys (h : MdL L o) : ln L (o + 7) = 17 := h.2.2.2.2.2.2.2.1.2.2
theorem MdL.x_keys (h : MdL L o) (h0 : 0 ≤ x) (h1 : x < 17) : 0 ≤ x ∧ x < ln L (o + 7) := ⟨h0, by rw [h.l_keys]; exact h1⟩
theorem MdL.v_nameOf (h : MdL L o) : fF L o 21 = o + 8 := h.2.2.2.2.2.2.2.2.1.1
theorem MdL.k_nameOf (h : MdL L o) : kd L (o + 8) = 104 := h.2.2.2.2.2.2.2.2.1.2.1
theorem MdL.l_nameOf (h : MdL L o) : ln L (o + 8) = 7 := h.2.2.2.2.2.2.2.2.1.2.2
theorem MdL.x_nameOf (h : MdL L o) (h0 : 0 ≤ x) (h1 : x < 7) : 0 ≤ x ∧ x < ln L (o + 8) := ⟨h0, by rw [h.l_nameOf]; exact h1⟩
theorem MdL.v_wide (h : MdL L o) : fF L o 22 = o + 9 := h.2.2.2.2.2.2.2.2.2.1.1
theorem MdL.k_wide (h : MdL L o) : kd L (o + 9) = 100 := h.2.2.2.2.2.2.2.2.2.1.2.1
theorem MdL.l_wide (h : MdL L o) : ln L (o + 9) = 2 := h.2.2.2.2.2.2.2.2.2.1.2.2
theorem MdL.x_wide (h : MdL L o) (h0 : 0 ≤ x) (h1 : x < 2) : 0 ≤ x ∧ x < ln L (o + 9) := ⟨h0, by rw [h.l_wide]; exact h1⟩
theorem MdL.v_high (h : MdL L o) : fF L o 23 = o + 10 := h.2.2.2.2.2.2.2.2.2.2.1.1
theorem MdL.k_high (h : MdL L o) : kd L (o + 10) = 100 := h.2.2.2.2.2.2.2.2.2.2.1.2.1
theorem MdL.l_high (h : MdL L o) : ln L (o + 10) = 2 := h.2.2.2.2.2.2.2.2.2.2.1.2.2
theorem MdL.x_high (h : MdL L o) (h0 : 0 ≤ x) (h1 : x < 2) : 0 ≤ x ∧ x < ln L (o + 10) := ⟨h0, by rw [h.l_high]; exact h1⟩
theorem MdL.v_men (h : MdL L o) : fF L o 24 = o + 11 := h.2.2.2.2.2.2.2.2.2.2.2.1.1
theorem MdL.k_men (h : MdL L o) : kd L (o + 11) = 100 := h.2.2.2.2.2.2.2.2.2.2.2.1.2.1
theorem MdL.l_men (h : MdL L o) : ln L (o + 11) = 2 := h.2.2.2.2.2.2.2.2.2.2.2.1.2.2
theorem MdL.x_men (h : MdL L o) (h0 : 0 ≤ x) (h1 : x < 2) : 0 ≤ x ∧ x < ln L (o + 11) := ⟨h0, by rw [h.l_men]; exact h1⟩
theorem MdL.v_doorX (h : MdL L o) : fF L o 25 = o + 12 := h.2.2.2.2.2.2.2.2.2.2.2.2.1.1
theorem MdL.k_doorX (h : MdL L o) : kd L (o + 12) = 100 := h.2.2.2.2.2.2.2.2.2.2.2.2.1.2.1
theorem MdL.l_doorX (h : MdL L o) : ln L (o + 12) = 14 := h.2.2.2.2.2.2.2.2.2.2.2.2.1.2.2
theorem MdL.x_doorX (h : MdL L o) (h0 : 0 ≤ x) (h1 : x < 14) : 0 ≤ x ∧ x < ln L (o + 12) := ⟨h0, by rw [h.l_doorX]; exact h1⟩
theorem MdL.v_doorY (h : MdL L o) : fF L o 26 = o + 13 := h.2.2.2.2.2.2.2.2.2.2.2.2.2.1.1
theorem MdL.k_doorY (h : MdL L o) : kd L (o + 13) = 100 := h.2.2.2.2.2.2.2.2.2.2.2.2.2.1.2.1
theorem MdL.l_doorY (h : MdL L o) : ln L (o + 13) = 14 := h.2.2.2.2.2.2.2.2.2.2.2.2.2.1.2.2
theorem MdL.x_doorY (h : MdL L o) (h0 : 0 ≤ x) (h1 : x < 14) : 0 ≤ x ∧ x < ln L (o + 13) := ⟨h0, by rw [h.l_doorY]; exact h1⟩
theorem MdL.v_dyeOf (h : MdL L o) : fF L o 27 = o + 14 := h.2.2.2.2.2.2.2.2.2.2.2.2.2.2.1.1
theorem MdL.k_dyeOf (h : MdL L o) : kd L (o + 14) = 100 := h.2.2.2.2.2.2.2.2.2.2.2.2.2.2.1.2.1
theorem MdL.l_dyeOf (h : MdL L o) : ln L (o + 14) = 14 := h.2.2.2.2.2.2.2.2.2.2.2.2.2.2.1.2.2
theorem MdL.x_dyeOf (h : MdL L o) (h0 : 0 ≤ x) (h1 : x < 14) : 0 ≤ x ∧ x < ln L (o + 14) := ⟨h0, by rw [h.l_dyeOf]; exact h1⟩
theorem MdL.v_errands (h : MdL L o) : fF L o 28 = o + 15 := h.2.2.2.2.2.2.2.2.2.2.2.2.2.2.2.1.1
theorem MdL.k_errands (h : MdL L o) : kd L (o + 15) = 100 := h.2.2.2.2.2.2.2.2.2.2.2.2.2.2.2.1.2.1
theorem MdL.l_errands (h : MdL L o) : ln L (o + 15) = 14 := h.2.2.2.2.2.2.2.2.2.2.2.2.2.2.2.1.2.2
theorem MdL.x_errands (h : MdL L o) (h0 : 0 ≤ x) (h1 : x < 14) : 0 ≤ x ∧ x < ln L (o + 15) := ⟨h0, by rw [h.l_errands]; exact h1⟩
theorem MdL.v_errandX (h : MdL L o) : fF L o 29 = o + 16 := h.2.2.2.2.2.2.2.2.2.2.2.2.2.2.2.2.1.1
theorem MdL.k_errandX (h : MdL L o) : kd L (o + 16) = 100 := h.2.2.2.2.2.2.2.2.2.2.2.2.2.2.2.2.1.2.1
theorem MdL.l_errandX (h : MdL L o) : ln L (o + 16) = 84 := h.2.2.2.2.2.2.2.2.2.2.2.2.2.2.2.2.1.2.2
theorem MdL.x_errandX (h : MdL L o) (h0 : 0 ≤ x) (h1 : x < 84) : 0 ≤ x ∧ x < ln L (o + 16) := ⟨h0, by rw [h.l_errandX]; exact h1⟩
theorem MdL.v_errandY (h : MdL L o) : fF L o 30 = o + 17 := h.2.2.2.2.2.2.2.2.2.2.2.2.2.2.2.2.2.1.1
theorem MdL.k_errandY (h : MdL L o) : kd L (o + 17) = 100 := h.2.2.2.2.2.2.2.2.2.2.2.2.2.2.2.2.2.1.2.1
theorem MdL.l_errandY (h : MdL L o) : ln L (o + 17) = 84 := h.2.2.2.2.2.2.2.2.2.2.2.2.2.2.2.2.2.1.2.2
theorem MdL.x_errandY (h : MdL L o) (h0 : 0 ≤ x) (h1 : x < 84) : 0 ≤ x ∧ x < ln L (o + 17) := ⟨h0, by rw [h.l_errandY]; exact h1⟩
theorem MdL.v_pillars (h : MdL L o) : fF L o 31 = o + 18 := h.2.2.2.2.2.2.2.2.2.2.2.2.2.2.2.2.2.2.1.1
theorem MdL.k_pillars (h : MdL L o) : kd L (o + 18) = 100 := h.2.2.2.2.2.2.2.2.2.2.2.2.2.2.2.2.2.2.1.2.1
theorem MdL.l_pillars (h : MdL L o) : ln L (o + 18) = 2 := h.2.2.2.2.2.2.2.2.2.2.2.2.2.2.2.2.2.2.1.2.2
theorem MdL.x_pillars (h : MdL L o) (h0 : 0 ≤ x) (h1 : x < 2) : 0 ≤ x ∧ x < ln L (o + 18) := ⟨h0, by rw [h.l_pillars]; exact h1⟩
theorem MdL.v_pillarX (h : MdL L o) : fF L o 32 = o + 19 := h.2.2.2.2.2.2.2.2.2.2.2.2.2.2.2.2.2.2.2.1.1
theorem MdL.k_pillarX (h : MdL L o) : kd L (o + 19) = 100 := h.2.2.2.2.2.2.2.2.2.2.2.2.2.2.2.2.2.2.2.1.2.1
theorem MdL.l_pillarX (h : MdL L o) : ln L (o + 19) = 12 := h.2.2.2.2.2.2.2.2.2.2.2.2.2.2.2.2.2.2.2.1.2.2
theorem MdL.x_pillarX (h : MdL L o) (h0 : 0 ≤ x) (h1 : x < 12) : 0 ≤ x ∧ x < ln L (o + 19) := ⟨h0, by rw [h.l_pillarX]; exact h1⟩
theorem MdL.v_pillarY (h : MdL L o) : fF L o 33 = o + 20 := h.2.2.2.2.2.2.2.2.2.2.2.2.2.2.2.2.2.2.2.2.1.1
theorem MdL.k_pillarY (h : MdL L o) : kd L (o + 20) = 100 := h.2.2.2.2.2.2.2.2.2.2.2.2.2.2.2.2.2.2.2.2.1.2.1
theorem MdL.l_pillarY (h : MdL L o) : ln L (o + 20) = 12 := h.2.2.2.2.2.2.2.2.2.2.2.2.2.2.2.2.2.2.2.2.1.2.2
theorem MdL.x_pillarY (h : MdL L o) (h0 : 0 ≤ x) (h1 : x < 12) : 0 ≤ x ∧ x < ln L (o + 20) := ⟨h0, by rw [h.l_pillarY]; exact h1⟩
theorem MdL.v_seed (h : MdL L o) : fF L o 34 = o + 21 := h.2.2.2.2.2.2.2.2.2.2.2.2.2.2.2.2.2.2.2.2.2.1.1
theorem MdL.k_seed (h : MdL L o) : kd L (o + 21) = 100 := h.2.2.2.2.2.2.2.2.2.2.2.2.2.2.2.2.2.2.2.2.2.1.2.1
theorem MdL.l_seed (h : MdL L o) : ln L (o + 21) = 2 := h.2.2.2.2.2.2.2.2.2.2.2.2.2.2.2.2.2.2.2.2.2.1.2.2
theorem MdL.x_seed (h : MdL L o) (h0 : 0 ≤ x) (h1 : x < 2) : 0 ≤ x ∧ x < ln L (o + 21) := ⟨h0, by rw [h.l_seed]; exact h1⟩
theorem MdL.v_cornerX (h : MdL L o) : fF L o 36 = o + 22 := h.2.2.2.2.2.2.2.2.2.2.2.2.2.2.2.2.2.2.2.2.2.2.1.1
theorem MdL.k_cornerX (h : MdL L o) : kd L (o + 22) = 100 := h.2.2.2.2.2.2.2.2.2.2.2.2.2.2.2.2.2.2.2.2.2.2.1.2.1
theorem MdL.l_cornerX (h : MdL L o) : ln L (o + 22) = 49 := h.2.2.2.2.2.2.2.2.2.2.2.2.2.2.2.2.2.2.2.2.2.2.1.2.2
theorem MdL.x_cornerX (h : MdL L o) (h0 : 0 ≤ x) (h1 : x < 49) : 0 ≤ x ∧ x < ln L (o + 22) := ⟨h0, by rw [h.l_cornerX]; exact h1⟩
theorem MdL.v_cornerY (h : MdL L o) : fF L o 37 = o + 23 := h.2.2.2.2.2.2.2.2.2.2.2.2.2.2.2.2.2.2.2.2.2.2.2.1.1
theorem MdL.k_cornerY (h : MdL L o) : kd L (o + 23) = 100 := h.2.2.2.2.2.2.2.2.2.2.2.2.2.2.2.2.2.2.2.2.2.2.2.1.2.1
theorem MdL.l_cornerY (h : MdL L o) : ln L (o + 23) = 49 := h.2.2.2.2.2.2.2.2.2.2.2.2.2.2.2.2.2.2.2.2.2.2.2.1.2.2
theorem MdL.x_cornerY (h : MdL L o) (h0 : 0 ≤ x) (h1 : x < 49) : 0 ≤ x ∧ x < ln L (o + 23) := ⟨h0, by rw [h.l_cornerY]; exact h1⟩
theorem MdL.v_cornerToken (h : MdL L o) : fF L o 38 = o + 24 := h.2.2.2.2.2.2.2.2.2.2.2.2.2.2.2.2.2.2.2.2.2.2.2.2.1.1
theorem MdL.k_cornerToken (h : MdL L o) : kd L (o + 24) = 100 := h.2.2.2.2.2.2.2.2.2.2.2.2.2.2.2.2.2.2.2.2.2.2.2.2.1.2.1
theorem MdL.l_cornerToken (h : MdL L o) : ln L (o + 24) = 49 := h.2.2.2.2.2.2.2.2.2.2.2.2.2.2.2.2.2.2.2.2.2.2.2.2.1.2.2
theorem MdL.x_cornerToken (h : MdL L o) (h0 : 0 ≤ x) (h1 : x < 49) : 0 ≤ x ∧ x < ln L (o + 24) := ⟨h0, by rw [h.l_cornerToken]; exact h1⟩
theorem MdL.v_lawFirst (h : MdL L o) : fF L o 39 = o + 25 := h.2.2.2.2.2.2.2.2.2.2.2.2.2.2.2.2.2.2.2.2.2.2.2.2.2.1.1
theorem MdL.k_lawFirst (h : MdL L o) : kd L (o + 25) = 100 := h.2.2.2.2.2.2.2.2.2.2.2.2.2.2.2.2.2.2.2.2.2.2.2.2.2.1.2.1
theorem MdL.l_lawFirst (h : MdL L o) : ln L (o + 25) = 16 := h.2.2.2.2.2.2.2.2.2.2.2.2.2.2.2.2.2.2.2.2.2.2.2.2.2.1.2.2
theorem MdL.x_lawFirst (h : MdL L o) (h0 : 0 ≤ x) (h1 : x < 16) : 0 ≤ x ∧ x < ln L (o + 25) := ⟨h0, by rw [h.l_lawFirst]; exact h1⟩
theorem MdL.v_lawLast (h : MdL L o) : fF L o 40 = o + 26 := h.2.2.2.2.2.2.2.2.2.2.2.2.2.2.2.2.2.2.2.2.2.2.2.2.2.2.1.1
theorem MdL.k_lawLast (h : MdL L o) : kd L (o + 26) = 100 := h.2.2.2.2.2.2.2.2.2.2.2.2.2.2.2.2.2.2.2.2.2.2.2.2.2.2.1.2.1
theorem MdL.l_lawLast (h : MdL L o) : ln L (o + 26) = 16 := h.2.2.2.2.2.2.2.2.2.2.2.2.2.2.2.2.2.2.2.2.2.2.2.2.2.2.1.2.2
theorem MdL.x_lawLast (h : MdL L o) (h0 : 0 ≤ x) (h1 : x < 16) : 0 ≤ x ∧ x < ln L (o + 26) := ⟨h0, by rw [h.l_lawLast]; exact h1⟩
theorem MdL.v_hasTest (h : MdL L o) : fF L o 42 = o + 27 := h.2.2.2.2.2.2.2.2.2.2.2.2.2.2.2.2.2.2.2.2.2.2.2.2.2.2.2.1.1
theorem MdL.k_hasTest (h : MdL L o) : kd L (o + 27) = 103 := h.2.2.2.2.2.2.2.2.2.2.2.2.2.2.2.2.2.2.2.2.2.2.2.2.2.2.2.1.2.1
theorem MdL.l_hasTest (h : MdL L o) : ln L (o + 27) = 260 := h.2.2.2.2.2.2.2.2.2.2.2.2.2.2.2.2.2.2.2.2.2.2.2.2.2.2.2.1.2.2
theorem MdL.x_hasTest (h : MdL L o) (h0 : 0 ≤ x) (h1 : x < 260) : 0 ≤ x ∧ x < ln L (o + 27) := ⟨h0, by rw [h.l_hasTest]; exact h1⟩
theorem MdL.v_testFrom (h : MdL L o) : fF L o 43 = o + 28 := h.2.2.2.2.2.2.2.2.2.2.2.2.2.2.2.2.2.2.2.2.2.2.2.2.2.2.2.2.1.1
theorem MdL.k_testFrom (h : MdL L o) : kd L (o + 28) = 100 := h.2.2.2.2.2.2.2.2.2.2.2.2.2.2.2.2.2.2.2.2.2.2.2.2.2.2.2.2.1.2.1
theorem MdL.l_testFrom (h : MdL L o) : ln L (o + 28) = 260 := h.2.2.2.2.2.2.2.2.2.2.2.2.2.2.2.2.2.2.2.2.2.2.2.2.2.2.2.2.1.2.2
theorem MdL.x_testFrom (h : MdL L o) (h0 : 0 ≤ x) (h1 : x < 260) : 0 ≤ x ∧ x < ln L (o + 28) := ⟨h0, by rw [h.l_testFrom]; exact h1⟩
theorem MdL.v_testMid (h : MdL L o) : fF L o 44 = o + 29 := h.2.2.2.2.2.2.2.2.2.2.2.2.2.2.2.2.2.2.2.2.2.2.2.2.2.2.2.2.2.1.1
theorem MdL.k_testMid (h : MdL L o) : kd L (o + 29) = 100 := h.2.2.2.2.2.2.2.2.2.2.2.2.2.2.2.2.2.2.2.2.2.2.2.2.2.2.2.2.2.1.2.1
theorem MdL.l_testMid (h : MdL L o) : ln L (o + 29) = 260 := h.2.2.2.2.2.2.2.2.2.2.2.2.2.2.2.2.2.2.2.2.2.2.2.2.2.2.2.2.2.1.2.2
theorem MdL.x_testMid (h : MdL L o) (h0 : 0 ≤ x) (h1 : x < 260) : 0 ≤ x ∧ x < ln L (o + 29) := ⟨h0, by rw [h.l_testMid]; exact h1⟩
theorem MdL.v_testTo (h : MdL L o) : fF L o 45 = o + 30 := h.2.2.2.2.2.2.2.2.2.2.2.2.2.2.2.2.2.2.2.2.2.2.2.2.2.2.2.2.2.2.1.1
theorem MdL.k_testTo (h : MdL L o) : kd L (o + 30) = 100 := h.2.2.2.2.2.2.2.2.2.2.2.2.2.2.2.2.2.2.2.2.2.2.2.2.2.2.2.2.2.2.1.2.1
theorem MdL.l_testTo (h : MdL L o) : ln L (o + 30) = 260 := h.2.2.2.2.2.2.2.2.2.2.2.2.2.2.2.2.2.2.2.2.2.2.2.2.2.2.2.2.2.2.1.2.2
theorem MdL.x_testTo (h : MdL L o) (h0 : 0 ≤ x) (h1 : x < 260) : 0 ≤ x ∧ x < ln L (o + 30) := ⟨h0, by rw [h.l_testTo]; exact h1⟩
theorem MdL.v_termTo (h : MdL L o) : fF L o 46 = o + 31 := h.2.2.2.2.2.2.2.2.2.2.2.2.2.2.2.2.2.2.2.2.2.2.2.2.2.2.2.2.2.2.2.1.1
theorem MdL.k_termTo (h : MdL L o) : kd L (o + 31) = 100 := h.2.2.2.2.2.2.2.2.2.2.2.2.2.2.2.2.2.2.2.2.2.2.2.2.2.2.2.2.2.2.2.1.2.1
theorem MdL.l_termTo (h : MdL L o) : ln L (o + 31) = 260 := h.2.2.2.2.2.2.2.2.2.2.2.2.2.2.2.2.2.2.2.2.2.2.2.2.2.2.2.2.2.2.2.1.2.2
theorem MdL.x_termTo (h : MdL L o) (h0 : 0 ≤ x) (h1 : x < 260) : 0 ≤ x ∧ x < ln L (o + 31) := ⟨h0, by rw [h.l_termTo]; exact h1⟩
theorem MdL.v_code (h : MdL L o) : fF L o 48 = o + 32 := h.2.2.2.2.2.2.2.2.2.2.2.2.2.2.2.2.2.2.2.2.2.2.2.2.2.2.2.2.2.2.2.2.1.1
theorem MdL.k_code (h : MdL L o) : kd L (o + 32) = 100 := h.2.2.2.2.2.2.2.2.2.2.2.2.2.2.2.2.2.2.2.2.2.2.2.2.2.2.2.2.2.2.2.2.1.2.1
theorem MdL.l_code (h : MdL L o) : ln L (o + 32) = 840 := h.2.2.2.2.2.2.2.2.2.2.2.2.2.2.2.2.2.2.2.2.2.2.2.2.2.2.2.2.2.2.2.2.1.2.2
theorem MdL.x_code (h : MdL L o) (h0 : 0 ≤ x) (h1 : x < 840) : 0 ≤ x ∧ x < ln L (o + 32) := ⟨h0, by rw [h.l_code]; exact h1⟩
theorem MdL.v_codeInt (h : MdL L o) : fF L o 49 = o + 33 := h.2.2.2.2.2.2.2.2.2.2.2.2.2.2.2.2.2.2.2.2.2.2.2.2.2.2.2.2.2.2.2.2.2.1.1
theorem MdL.k_codeInt (h : MdL L o) : kd L (o + 33) = 100 := h.2.2.2.2.2.2.2.2.2.2.2.2.2.2.2.2.2.2.2.2.2.2.2.2.2.2.2.2.2.2.2.2.2.1.2.1
theorem MdL.l_codeInt (h : MdL L o) : ln L (o + 33) = 840 := h.2.2.2.2.2.2.2.2.2.2.2.2.2.2.2.2.2.2.2.2.2.2.2.2.2.2.2.2.2.2.2.2.2.1.2.2
theorem MdL.x_codeInt (h : MdL L o) (h0 : 0 ≤ x) (h1 : x < 840) : 0 ≤ x ∧ x < ln L (o + 33) := ⟨h0, by rw [h.l_codeInt]; exact h1⟩
theorem MdL.v_waits (h : MdL L o) : fF L o 50 = o + 34 := h.2.2.2.2.2.2.2.2.2.2.2.2.2.2.2.2.2.2.2.2.2.2.2.2.2.2.2.2.2.2.2.2.2.2.1.1
theorem MdL.k_waits (h : MdL L o) : kd L (o + 34) = 100 := h.2.2.2.2.2.2.2.2.2.2.2.2.2.2.2.2.2.2.2.2.2.2.2.2.2.2.2.2.2.2.2.2.2.2.1.2.1
theorem MdL.l_waits (h : MdL L o) : ln L (o + 34) = 64 := h.2.2.2.2.2.2.2.2.2.2.2.2.2.2.2.2.2.2.2.2.2.2.2.2.2.2.2.2.2.2.2.2.2.2.1.2.2
theorem MdL.x_waits (h : MdL L o) (h0 : 0 ≤ x) (h1 : x < 64) : 0 ≤ x ∧ x < ln L (o + 34) := ⟨h0, by rw [h.l_waits]; exact h1⟩
theorem MdL.v_variables (h : MdL L o) : fF L o 52 = o + 35 := h.2.2.2.2.2.2.2.2.2.2.2.2.2.2.2.2.2.2.2.2.2.2.2.2.2.2.2.2.2.2.2.2.2.2.2.1.1
theorem MdL.k_variables (h : MdL L o) : kd L (o + 35) = 100 := h.2.2.2.2.2.2.2.2.2.2.2.2.2.2.2.2.2.2.2.2.2.2.2.2.2.2.2.2.2.2.2.2.2.2.2.1.2.1
theorem MdL.l_variables (h : MdL L o) : ln L (o + 35) = 6 := h.2.2.2.2.2.2.2.2.2.2.2.2.2.2.2.2.2.2.2.2.2.2.2.2.2.2.2.2.2.2.2.2.2.2.2.1.2.2
theorem MdL.x_variables (h : MdL L o) (h0 : 0 ≤ x) (h1 : x < 6) : 0 ≤ x ∧ x < ln L (o + 35) := ⟨h0, by rw [h.l_variables]; exact h1⟩
theorem MdL.v_pile (h : MdL L o) : fF L o 53 = o + 36 := h.2.2.2.2.2.2.2.2.2.2.2.2.2.2.2.2.2.2.2.2.2.2.2.2.2.2.2.2.2.2.2.2.2.2.2.2.1.1
theorem MdL.k_pile (h : MdL L o) : kd L (o + 36) = 100 := h.2.2.2.2.2.2.2.2.2.2.2.2.2.2.2.2.2.2.2.2.2.2.2.2.2.2.2.2.2.2.2.2.2.2.2.2.1.2.1
theorem MdL.l_pile (h : MdL L o) : ln L (o + 36) = 400 := h.2.2.2.2.2.2.2.2.2.2.2.2.2.2.2.2.2.2.2.2.2.2.2.2.2.2.2.2.2.2.2.2.2.2.2.2.1.2.2
theorem MdL.x_pile (h : MdL L o) (h0 : 0 ≤ x) (h1 : x < 400) : 0 ≤ x ∧ x < ln L (o + 36) := ⟨h0, by rw [h.l_pile]; exact h1⟩
theorem MdL.v_now (h : MdL L o) : fF L o 55 = o + 37 := h.2.2.2.2.2.2.2.2.2.2.2.2.2.2.2.2.2.2.2.2.2.2.2.2.2.2.2.2.2.2.2.2.2.2.2.2.2.1.1
theorem MdL.k_now (h : MdL L o) : kd L (o + 37) = 100 := h.2.2.2.2.2.2.2.2.2.2.2.2.2.2.2.2.2.2.2.2.2.2.2.2.2.2.2.2.2.2.2.2.2.2.2.2.2.1.2.1
theorem MdL.l_now (h : MdL L o) : ln L (o + 37) = 1290 := h.2.2.2.2.2.2.2.2.2.2.2.2.2.2.2.2.2.2.2.2.2.2.2.2.2.2.2.2.2.2.2.2.2.2.2.2.2.1.2.2
theorem MdL.x_now (h : MdL L o) (h0 : 0 ≤ x) (h1 : x < 1290) : 0 ≤ x ∧ x < ln L (o + 37) := ⟨h0, by rw [h.l_now]; exact h1⟩
theorem MdL.v_row (h : MdL L o) : fF L o 56 = o + 38 := h.2.2.2.2.2.2.2.2.2.2.2.2.2.2.2.2.2.2.2.2.2.2.2.2.2.2.2.2.2.2.2.2.2.2.2.2.2.2.1.1
theorem MdL.k_row (h : MdL L o) : kd L (o + 38) = 100 := h.2.2.2.2.2.2.2.2.2.2.2.2.2.2.2.2.2.2.2.2.2.2.2.2.2.2.2.2.2.2.2.2.2.2.2.2.2.2.1.2.1
theorem MdL.l_row (h : MdL L o) : ln L (o + 38) = 1290 := h.2.2.2.2.2.2.2.2.2.2.2.2.2.2.2.2.2.2.2.2.2.2.2.2.2.2.2.2.2.2.2.2.2.2.2.2.2.2.1.2.2
theorem MdL.x_row (h : MdL L o) (h0 : 0 ≤ x) (h1 : x < 1290) : 0 ≤ x ∧ x < ln L (o + 38) := ⟨h0, by rw [h.l_row]; exact h1⟩
theorem MdL.v_later (h : MdL L o) : fF L o 57 = o + 39 := h.2.2.2.2.2.2.2.2.2.2.2.2.2.2.2.2.2.2.2.2.2.2.2.2.2.2.2.2.2.2.2.2.2.2.2.2.2.2.2.1.1
theorem MdL.k_later (h : MdL L o) : kd L (o + 39) = 100 := h.2.2.2.2.2.2.2.2.2.2.2.2.2.2.2.2.2.2.2.2.2.2.2.2.2.2.2.2.2.2.2.2.2.2.2.2.2.2.2.1.2.1
theorem MdL.l_later (h : MdL L o) : ln L (o + 39) = 7 := h.2.2.2.2.2.2.2.2.2.2.2.2.2.2.2.2.2.2.2.2.2.2.2.2.2.2.2.2.2.2.2.2.2.2.2.2.2.2.2.1.2.2
theorem MdL.x_later (h : MdL L o) (h0 : 0 ≤ x) (h1 : x < 7) : 0 ≤ x ∧ x < ln L (o + 39) := ⟨h0, by rw [h.l_later]; exact h1⟩
theorem MdL.v_history (h : MdL L o) : fF L o 59 = o + 40 := h.2.2.2.2.2.2.2.2.2.2.2.2.2.2.2.2.2.2.2.2.2.2.2.2.2.2.2.2.2.2.2.2.2.2.2.2.2.2.2.2.1.1
theorem MdL.k_history (h : MdL L o) : kd L (o + 40) = 100 := h.2.2.2.2.2.2.2.2.2.2.2.2.2.2.2.2.2.2.2.2.2.2.2.2.2.2.2.2.2.2.2.2.2.2.2.2.2.2.2.2.1.2.1
theorem MdL.l_history (h : MdL L o) : ln L (o + 40) = 38700 := h.2.2.2.2.2.2.2.2.2.2.2.2.2.2.2.2.2.2.2.2.2.2.2.2.2.2.2.2.2.2.2.2.2.2.2.2.2.2.2.2.1.2.2
theorem MdL.x_history (h : MdL L o) (h0 : 0 ≤ x) (h1 : x < 38700) : 0 ≤ x ∧ x < ln L (o + 40) := ⟨h0, by rw [h.l_history]; exact h1⟩
theorem MdL.v_waitsFor (h : MdL L o) : fF L o 60 = o + 41 := h.2.2.2.2.2.2.2.2.2.2.2.2.2.2.2.2.2.2.2.2.2.2.2.2.2.2.2.2.2.2.2.2.2.2.2.2.2.2.2.2.2.1.1
theorem MdL.k_waitsFor (h : MdL L o) : kd L (o + 41) = 100 := h.2.2.2.2.2.2.2.2.2.2.2.2.2.2.2.2.2.2.2.2.2.2.2.2.2.2.2.2.2.2.2.2.2.2.2.2.2.2.2.2.2.1.2.1
theorem MdL.l_waitsFor (h : MdL L o) : ln L (o + 41) = 7 := h.2.2.2.2.2.2.2.2.2.2.2.2.2.2.2.2.2.2.2.2.2.2.2.2.2.2.2.2.2.2.2.2.2.2.2.2.2.2.2.2.2.1.2.2
theorem MdL.x_waitsFor (h : MdL L o) (h0 : 0 ≤ x) (h1 : x < 7) : 0 ≤ x ∧ x < ln L (o + 41) := ⟨h0, by rw [h.l_waitsFor]; exact h1⟩
theorem MdL.v_ordersOf (h : MdL L o) : fF L o 61 = o + 42 := h.2.2.2.2.2.2.2.2.2.2.2.2.2.2.2.2.2.2.2.2.2.2.2.2.2.2.2.2.2.2.2.2.2.2.2.2.2.2.2.2.2.2.1.1
theorem MdL.k_ordersOf (h : MdL L o) : kd L (o + 42) = 100 := h.2.2.2.2.2.2.2.2.2.2.2.2.2.2.2.2.2.2.2.2.2.2.2.2.2.2.2.2.2.2.2.2.2.2.2.2.2.2.2.2.2.2.1.2.1
theorem MdL.l_ordersOf (h : MdL L o) : ln L (o + 42) = 128 := h.2.2.2.2.2.2.2.2.2.2.2.2.2.2.2.2.2.2.2.2.2.2.2.2.2.2.2.2.2.2.2.2.2.2.2.2.2.2.2.2.2.2.1.2.2
theorem MdL.x_ordersOf (h : MdL L o) (h0 : 0 ≤ x) (h1 : x < 128) : 0 ≤ x ∧ x < ln L (o + 42) := ⟨h0, by rw [h.l_ordersOf]; exact h1⟩
theorem MdL.v_order (h : MdL L o) : fF L o 62 = o + 43 := h.2.2.2.2.2.2.2.2.2.2.2.2.2.2.2.2.2.2.2.2.2.2.2.2.2.2.2.2.2.2.2.2.2.2.2.2.2.2.2.2.2.2.2.1.1
theorem MdL.k_order (h : MdL L o) : kd L (o + 43) = 100 := h.2.2.2.2.2.2.2.2.2.2.2.2.2.2.2.2.2.2.2.2.2.2.2.2.2.2.2.2.2.2.2.2.2.2.2.2.2.2.2.2.2.2.2.1.2.1
theorem MdL.l_order (h : MdL L o) : ln L (o + 43) = 6 := h.2.2.2.2.2.2.2.2.2.2.2.2.2.2.2.2.2.2.2.2.2.2.2.2.2.2.2.2.2.2.2.2.2.2.2.2.2.2.2.2.2.2.2.1.2.2
theorem MdL.x_order (h : MdL L o) (h0 : 0 ≤ x) (h1 : x < 6) : 0 ≤ x ∧ x < ln L (o + 43) := ⟨h0, by rw [h.l_order]; exact h1⟩
theorem MdL.v_bestOrder (h : MdL L o) : fF L o 63 = o + 44 := h.2.2.2.2.2.2.2.2.2.2.2.2.2.2.2.2.2.2.2.2.2.2.2.2.2.2.2.2.2.2.2.2.2.2.2.2.2.2.2.2.2.2.2.2.1.1
theorem MdL.k_bestOrder (h : MdL L o) : kd L (o + 44) = 100 := h.2.2.2.2.2.2.2.2.2.2.2.2.2.2.2.2.2.2.2.2.2.2.2.2.2.2.2.2.2.2.2.2.2.2.2.2.2.2.2.2.2.2.2.2.1.2.1
theorem MdL.l_bestOrder (h : MdL L o) : ln L (o + 44) = 6 := h.2.2.2.2.2.2.2.2.2.2.2.2.2.2.2.2.2.2.2.2.2.2.2.2.2.2.2.2.2.2.2.2.2.2.2.2.2.2.2.2.2.2.2.2.1.2.2
theorem MdL.x_bestOrder (h : MdL L o) (h0 : 0 ≤ x) (h1 : x < 6) : 0 ≤ x ∧ x < ln L (o + 44) := ⟨h0, by rw [h.l_bestOrder]; exact h1⟩
theorem MdL.v_keyOf (h : MdL L o) : fF L o 66 = o + 45 := h.2.2.2.2.2.2.2.2.2.2.2.2.2.2.2.2.2.2.2.2.2.2.2.2.2.2.2.2.2.2.2.2.2.2.2.2.2.2.2.2.2.2.2.2.2.1.1
theorem MdL.k_keyOf (h : MdL L o) : kd L (o + 45) = 100 := h.2.2.2.2.2.2.2.2.2.2.2.2.2.2.2.2.2.2.2.2.2.2.2.2.2.2.2.2.2.2.2.2.2.2.2.2.2.2.2.2.2.2.2.2.2.1.2.1
theorem MdL.l_keyOf (h : MdL L o) : ln L (o + 45) = 7 := h.2.2.2.2.2.2.2.2.2.2.2.2.2.2.2.2.2.2.2.2.2.2.2.2.2.2.2.2.2.2.2.2.2.2.2.2.2.2.2.2.2.2.2.2.2.1.2.2
theorem MdL.x_keyOf (h : MdL L o) (h0 : 0 ≤ x) (h1 : x < 7) : 0 ≤ x ∧ x < ln L (o + 45) := ⟨h0, by rw [h.l_keyOf]; exact h1⟩
theorem MdL.v_laid (h : MdL L o) : fF L o 67 = o + 46 := h.2.2.2.2.2.2.2.2.2.2.2.2.2.2.2.2.2.2.2.2.2.2.2.2.2.2.2.2.2.2.2.2.2.2.2.2.2.2.2.2.2.2.2.2.2.2.1.1
theorem MdL.k_laid (h : MdL L o) : kd L (o + 46) = 100 := h.2.2.2.2.2.2.2.2.2.2.2.2.2.2.2.2.2.2.2.2.2.2.2.2.2.2.2.2.2.2.2.2.2.2.2.2.2.2.2.2.2.2.2.2.2.2.1.2.1
theorem MdL.l_laid (h : MdL L o) : ln L (o + 46) = 4032 := h.2.2.2.2.2.2.2.2.2.2.2.2.2.2.2.2.2.2.2.2.2.2.2.2.2.2.2.2.2.2.2.2.2.2.2.2.2.2.2.2.2.2.2.2.2.2.1.2.2
theorem MdL.x_laid (h : MdL L o) (h0 : 0 ≤ x) (h1 : x < 4032) : 0 ≤ x ∧ x < ln L (o + 46) := ⟨h0, by rw [h.l_laid]; exact h1⟩
theorem MdL.v_crossed (h : MdL L o) : fF L o 68 = o + 47 := h.2.2.2.2.2.2.2.2.2.2.2.2.2.2.2.2.2.2.2.2.2.2.2.2.2.2.2.2.2.2.2.2.2.2.2.2.2.2.2.2.2.2.2.2.2.2.2.1.1
theorem MdL.k_crossed (h : MdL L o) : kd L (o + 47) = 100 := h.2.2.2.2.2.2.2.2.2.2.2.2.2.2.2.2.2.2.2.2.2.2.2.2.2.2.2.2.2.2.2.2.2.2.2.2.2.2.2.2.2.2.2.2.2.2.2.1.2.1
theorem MdL.l_crossed (h : MdL L o) : ln L (o + 47) = 196 := h.2.2.2.2.2.2.2.2.2.2.2.2.2.2.2.2.2.2.2.2.2.2.2.2.2.2.2.2.2.2.2.2.2.2.2.2.2.2.2.2.2.2.2.2.2.2.2.1.2.2
theorem MdL.x_crossed (h : MdL L o) (h0 : 0 ≤ x) (h1 : x < 196) : 0 ≤ x ∧ x < ln L (o + 47) := ⟨h0, by rw [h.l_crossed]; exact h1⟩
theorem MdL.v_toldMan (h : MdL L o) : fF L o 70 = o + 48 := h.2.2.2.2.2.2.2.2.2.2.2.2.2.2.2.2.2.2.2.2.2.2.2.2.2.2.2.2.2.2.2.2.2.2.2.2.2.2.2.2.2.2.2.2.2.2.2.2.1.1
theorem MdL.k_toldMan (h : MdL L o) : kd L (o + 48) = 100 := h.2.2.2.2.2.2.2.2.2.2.2.2.2.2.2.2.2.2.2.2.2.2.2.2.2.2.2.2.2.2.2.2.2.2.2.2.2.2.2.2.2.2.2.2.2.2.2.2.1.2.1
theorem MdL.l_toldMan (h : MdL L o) : ln L (o + 48) = 12 := h.2.2.2.2.2.2.2.2.2.2.2.2.2.2.2.2.2.2.2.2.2.2.2.2.2.2.2.2.2.2.2.2.2.2.2.2.2.2.2.2.2.2.2.2.2.2.2.2.1.2.2
theorem MdL.x_toldMan (h : MdL L o) (h0 : 0 ≤ x) (h1 : x < 12) : 0 ≤ x ∧ x < ln L (o + 48) := ⟨h0, by rw [h.l_toldMan]; exact h1⟩
theorem MdL.v_toldOther (h : MdL L o) : fF L o 71 = o + 49 := h.2.2.2.2.2.2.2.2.2.2.2.2.2.2.2.2.2.2.2.2.2.2.2.2.2.2.2.2.2.2.2.2.2.2.2.2.2.2.2.2.2.2.2.2.2.2.2.2.2.1.1
theorem MdL.k_toldOther (h : MdL L o) : kd L (o + 49) = 100 := h.2.2.2.2.2.2.2.2.2.2.2.2.2.2.2.2.2.2.2.2.2.2.2.2.2.2.2.2.2.2.2.2.2.2.2.2.2.2.2.2.2.2.2.2.2.2.2.2.2.1.2.1
theorem MdL.l_toldOther (h : MdL L o) : ln L (o + 49) = 12 := h.2.2.2.2.2.2.2.2.2.2.2.2.2.2.2.2.2.2.2.2.2.2.2.2.2.2.2.2.2.2.2.2.2.2.2.2.2.2.2.2.2.2.2.2.2.2.2.2.2.1.2.2
theorem MdL.x_toldOther (h : MdL L o) (h0 : 0 ≤ x) (h1 : x < 12) : 0 ≤ x ∧ x < ln L (o + 49) := ⟨h0, by rw [h.l_toldOther]; exact h1⟩
theorem MdL.v_toldOver (h : MdL L o) : fF L o 72 = o + 50 := h.2.2.2.2.2.2.2.2.2.2.2.2.2.2.2.2.2.2.2.2.2.2.2.2.2.2.2.2.2.2.2.2.2.2.2.2.2.2.2.2.2.2.2.2.2.2.2.2.2.2.1.1
theorem MdL.k_toldOver (h : MdL L o) : kd L (o + 50) = 103 := h.2.2.2.2.2.2.2.2.2.2.2.2.2.2.2.2.2.2.2.2.2.2.2.2.2.2.2.2.2.2.2.2.2.2.2.2.2.2.2.2.2.2.2.2.2.2.2.2.2.2.1.2.1
theorem MdL.l_toldOver (h : MdL L o) : ln L (o + 50) = 12 := h.2.2.2.2.2.2.2.2.2.2.2.2.2.2.2.2.2.2.2.2.2.2.2.2.2.2.2.2.2.2.2.2.2.2.2.2.2.2.2.2.2.2.2.2.2.2.2.2.2.2.1.2.2
theorem MdL.x_toldOver (h : MdL L o) (h0 : 0 ≤ x) (h1 : x < 12) : 0 ≤ x ∧ x < ln L (o + 50) := ⟨h0, by rw [h.l_toldOver]; exact h1⟩
theorem MdL.v_isHeld (h : MdL L o) : fF L o 73 = o + 51 := h.2.2.2.2.2.2.2.2.2.2.2.2.2.2.2.2.2.2.2.2.2.2.2.2.2.2.2.2.2.2.2.2.2.2.2.2.2.2.2.2.2.2.2.2.2.2.2.2.2.2.2.1.1
theorem MdL.k_isHeld (h : MdL L o) : kd L (o + 51) = 103 := h.2.2.2.2.2.2.2.2.2.2.2.2.2.2.2.2.2.2.2.2.2.2.2.2.2.2.2.2.2.2.2.2.2.2.2.2.2.2.2.2.2.2.2.2.2.2.2.2.2.2.2.1.2.1
theorem MdL.l_isHeld (h : MdL L o) : ln L (o + 51) = 3 := h.2.2.2.2.2.2.2.2.2.2.2.2.2.2.2.2.2.2.2.2.2.2.2.2.2.2.2.2.2.2.2.2.2.2.2.2.2.2.2.2.2.2.2.2.2.2.2.2.2.2.2.1.2.2
theorem MdL.x_isHeld (h : MdL L o) (h0 : 0 ≤ x) (h1 : x < 3) : 0 ≤ x ∧ x < ln L (o + 51) := ⟨h0, by rw [h.l_isHeld]; exact h1⟩
theorem MdL.v_held (h : MdL L o) : fF L o 74 = o + 52 := h.2.2.2.2.2.2.2.2.2.2.2.2.2.2.2.2.2.2.2.2.2.2.2.2.2.2.2.2.2.2.2.2.2.2.2.2.2.2.2.2.2.2.2.2.2.2.2.2.2.2.2.2.1
theorem MdL.k_held (h : MdL L o) : kd L (o + 52) = 100 := h.2.2.2.2.2.2.2.2.2.2.2.2.2.2.2.2.2.2.2.2.2.2.2.2.2.2.2.2.2.2.2.2.2.2.2.2.2.2.2.2.2.2.2.2.2.2.2.2.2.2.2.2.2.1
theorem MdL.l_held (h : MdL L o) : ln L (o + 52) = 3870 := h.2.2.2.2.2.2.2.2.2.2.2.2.2.2.2.2.2.2.2.2.2.2.2.2.2.2.2.2.2.2.2.2.2.2.2.2.2.2.2.2.2.2.2.2.2.2.2.2.2.2.2.2.2.2
theorem MdL.x_held (h : MdL L o) (h0 : 0 ≤ x) (h1 : x < 3870) : 0 ≤ x ∧ x < ln L (o + 52) := ⟨h0, by rw [h.l_held]; exact h1⟩
end MDL
