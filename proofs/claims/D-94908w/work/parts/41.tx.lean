/-! TEXT, MEN: what they have, by name; ThreadTown's state -/
set_option maxRecDepth 100000
section TXN
variable {L : am_L} {t a m i : Int} {T : Txt}
theorem TxL.k0 (h : TxL L t T) : kd L t = 4 := h.1
theorem TxL.ls (h : TxL L t T) : LsL L (fF L t 0) (tM T) (manA L t) := h.2.1
theorem TxL.kl (h : TxL L t T) : kd L (fF L t 0) = 20 := h.2.1.1
theorem TxL.man (h : TxL L t T) (h0 : 0 ≤ m) (h1 : m < tM T) : ManL L (manA L t m) T m := h.2.2.1 m h0 h1
theorem TxL.vW (h : TxL L t T) : fF L t 6 = tWide T := h.2.2.2.1
theorem TxL.vD (h : TxL L t T) : fF L t 7 = tDeep T := h.2.2.2.2.1
theorem TxL.vP (h : TxL L t T) : fF L t 8 = tP T := h.2.2.2.2.2.1
theorem TxL.vS (h : TxL L t T) : fF L t 10 = tSeed T := h.2.2.2.2.2.2.1
theorem TxL.kpx (h : TxL L t T) : kd L (fF L t 1) = 117 := h.2.2.2.2.2.2.2.1.1
theorem TxL.kpy (h : TxL L t T) : kd L (fF L t 2) = 117 := h.2.2.2.2.2.2.2.2.1.1
theorem TxL.xpx (h : TxL L t T) (h0 : 0 ≤ i) (h1 : i < 6) : 0 ≤ i ∧ i < ln L (fF L t 1) := ⟨h0, by rw [h.2.2.2.2.2.2.2.1.2.1]; exact h1⟩
theorem TxL.xpy (h : TxL L t T) (h0 : 0 ≤ i) (h1 : i < 6) : 0 ≤ i ∧ i < ln L (fF L t 2) := ⟨h0, by rw [h.2.2.2.2.2.2.2.2.1.2.1]; exact h1⟩
theorem TxL.px (h : TxL L t T) (h0 : 0 ≤ i) (h1 : i < tP T) : fF L (fF L t 1) i = tPX T i := h.2.2.2.2.2.2.2.1.2.2 i h0 h1
theorem TxL.py (h : TxL L t T) (h0 : 0 ≤ i) (h1 : i < tP T) : fF L (fF L t 2) i = tPY T i := h.2.2.2.2.2.2.2.2.1.2.2 i h0 h1
theorem ManL.k0 (h : ManL L a T m) : kd L a = 14 := h.1
theorem ManL.x (h : ManL L a T m) : fF L a 3 = tDX T m := h.2.1
theorem ManL.y (h : ManL L a T m) : fF L a 4 = tDY T m := h.2.2.1
theorem ManL.errands (h : ManL L a T m) : fF L a 5 = tE T m := h.2.2.2.1
theorem ManL.dye (h : ManL L a T m) : fF L a 6 = tDye T m := h.2.2.2.2.1
theorem ManL.kex (h : ManL L a T m) : kd L (fF L a 1) = 117 := h.2.2.2.2.2.1.1
theorem ManL.key (h : ManL L a T m) : kd L (fF L a 2) = 117 := h.2.2.2.2.2.2.1.1
theorem ManL.xex (h : ManL L a T m) (h0 : 0 ≤ i) (h1 : i < 6) : 0 ≤ i ∧ i < ln L (fF L a 1) := ⟨h0, by rw [h.2.2.2.2.2.1.2.1]; exact h1⟩
theorem ManL.xey (h : ManL L a T m) (h0 : 0 ≤ i) (h1 : i < 6) : 0 ≤ i ∧ i < ln L (fF L a 2) := ⟨h0, by rw [h.2.2.2.2.2.2.1.2.1]; exact h1⟩
theorem ManL.ex (h : ManL L a T m) (h0 : 0 ≤ i) (h1 : i < tE T m) : fF L (fF L a 1) i = tEX T m i := h.2.2.2.2.2.1.2.2 i h0 h1
theorem ManL.ey (h : ManL L a T m) (h0 : 0 ≤ i) (h1 : i < tE T m) : fF L (fF L a 2) i = tEY T m i := h.2.2.2.2.2.2.1.2.2 i h0 h1
end TXN
