/-! LOCALS that are used no more -/
set_option maxRecDepth 100000
def wkL : List AV → List AV → Prop
  | [], _ => True
  | a :: as, b :: bs => (a = b ∨ a.1 = 3) ∧ wkL as bs
  | _ :: _, [] => False
theorem wkL.len : ∀ {l' l : List AV}, wkL l' l → l'.length ≤ l.length
  | [], _, _ => Nat.zero_le _
  | _ :: _, _ :: _, h => Nat.succ_le_succ (wkL.len h.2)
  | _ :: _, [], h => h.elim
theorem wkL.at_ : ∀ {l' l : List AV}, wkL l' l → ∀ (j : Nat) (v : AV), l'[j]? = some v → v.1 ≠ 3 → l[j]? = some v
  | [], _, _, j, v, h, _ => by simp at h
  | _ :: _, [], h, _, _, _, _ => h.elim
  | a :: as, b :: bs, h, 0, v, h1, h2 => by
    have e : a = v := by simpa using h1
    subst e
    rcases h.1 with q | q
    · rw [q]; rfl
    · exact absurd q h2
  | a :: as, b :: bs, h, j + 1, v, h1, h2 => by
    have := wkL.at_ h.2 j v (by simpa using h1) h2
    simpa using this
section WK
variable {G : am_G} {M : am_M} {d pc : Nat} {ls ls' st : List AV} {L : am_L} {h : am_H} {Q : am_O → am_L → am_H → Prop}
theorem x_wk (w : wkL ls' ls) (k : am_X G M d pc ls' st L h Q) : am_X G M d pc ls st L h Q := by
  intro wf
  obtain ⟨o, L', h', hQ, hw, hm, k⟩ := k wf
  exact ⟨o, L', h', hQ, hw, hm, fun p e R s m args below meth c S H locs cells slots lsR hR hS hL e1 e2 => k p e R s m args below meth c S H locs cells slots lsR hR hS ⟨hL.1, hL.2.1, Nat.le_trans w.len hL.2.2.1, fun j v h1 h2 => hL.2.2.2 j v (w.at_ j v h1 h2) h2⟩ e1 e2⟩
end WK
