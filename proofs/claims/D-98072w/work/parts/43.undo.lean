/-! UNDO: the class's cells against the block -/
def uUndo (A : zMm) : zMm := zfl (zup A 0 1022 (A 0 1022 - 1)) 2 58 2059 (fun j => A 5 (2001 * (A 0 1022 - 1) + (j - 58)))
theorem uUndo_o {A : zMm} {o j : Int} (h : ¬ (o = 2 ∧ 58 ≤ j ∧ j < 2059)) (h2 : ¬ (o = 0 ∧ j = 1022)) : uUndo A o j = A o j := by
  unfold uUndo
  rw [zfl_ne (by omega), zup_ne (by omega)]
theorem uUndo_p {A : zMm} {j : Int} (h : 58 ≤ j) (h2 : j < 2059) : uUndo A 2 j = A 5 (2001 * (A 0 1022 - 1) + (j - 58)) := by
  unfold uUndo
  exact zfl_at h h2
/-- one undo less -/
theorem rel.less {S : zS} {m : zMm} {x u : Int} {A : zMm} (h : rel S m x A) (h0 : 0 ≤ u) (h1 : u ≤ A 0 1022) : rel S (zup m x 17 u) x (zup A 0 1022 u) := by
  obtain ⟨r1, r2, r3, r4⟩ := h.un
  obtain ⟨w1, w2⟩ := h.vun
  refine h.set_un zGr.rf (fun k j _ _ _ hn => zup_ne (by omega)) ?_ (fun o j hn => zup_ne (by omega)) ?_ ⟨⟨?_, ?_, ?_, ?_⟩, ?_⟩
  · rintro a a0 _ ⟨j, hj⟩
    exact absurd (zup_ne (by omega)) hj
  · rw [zup_at, zup_fn (by omega)]
    exact ⟨by omega, fun q q0 q1 => w2 q q0 (by omega)⟩
  · rw [zup_at, zup_at]
  · intro q q0 q1
    rw [zup_ne (by omega)]
    exact r2 q q0 q1
  · intro q q0 q1
    rw [zup_at] at q1
    rw [zup_ne (by omega), zup_fn (by omega)]
    obtain ⟨e1, e2⟩ := r3 q q0 (by omega)
    exact ⟨e1, e2.fr zGr.rf (fun a a0 a1 j => zup_ne (by omega))⟩
  · intro q r q0 q1 q2
    rw [zup_ne (by omega), zup_ne (by omega)]
    exact r4 q r q0 q1 q2
  · intro q i q0 q1 i0 i1
    rw [zup_ne (by omega)]
    exact h.im.2.2 q i q0 q1 i0 i1
/-- the plan is as one elsewhere -/
theorem rel.be {S : zS} {m : zMm} {x o n : Int} {g : zGo} {A A2 : zMm} (h : rel S m x A) (hb : A 0 1023 = 1) (ho : zPR S m o n g) (hne : x + 20 ≤ o ∨ o + 6 ≤ x + 14) (hA : ∀ o j, ¬ (o = 2 ∧ 58 ≤ j ∧ j < 2059) → A2 o j = A o j)
    (hv : zGV n g) (hn : A2 2 58 = n) (hg : ∀ k w, 0 ≤ k → k < n → 0 ≤ w → w < 5 → aGo (A2 2) 58 k w = g k w) : rel S (zbe m (x + 14) o) x A2 := by
  refine h.plan hb (fun b j hb => zbe_ne (by omega)) hA ?_ ?_
  · exact hv.gc hn hg
  · exact (zbe_pr h.pl.1 ho (by omega)).gc hn hg
theorem rel.undo {S : zS} {m : zMm} {x : Int} {A : zMm} (h : rel S m x A) (hb : A 0 1023 = 1) (h0 : 0 < A 0 1022) : rel S (zbe (zup m x 17 (A 0 1022 - 1)) (x + 14) (m (x + 29) (A 0 1022 - 1))) x (uUndo A) := by
  have hl := h.less (u := A 0 1022 - 1) (by omega) (by omega)
  obtain ⟨e1, e2⟩ := h.un.2.2.1 (A 0 1022 - 1) (by omega) (by omega)
  have hv := h.vun.2 (A 0 1022 - 1) (by omega) (by omega)
  refine hl.be (by rw [zup_ne (by omega)]; exact hb) (e2.fr zGr.rf (fun a a0 a1 j => zup_ne (by omega))) (by omega) (fun o j hne => ?_) hv ?_ (fun k w k0 k1 w0 w1 => ?_)
  · by_cases q : o = 0 ∧ j = 1022
    · rw [q.1, q.2, zup_at]
      unfold uUndo
      rw [zfl_ne (by omega), zup_at]
    · rw [uUndo_o hne q, zup_ne q]
  · rw [uUndo_p (by omega) (by omega), show 2001 * (A 0 1022 - 1) + (58 - 58) = 2001 * (A 0 1022 - 1) by omega]
  · have := hv.2.1
    unfold aGo
    rw [uUndo_p (by omega) (by omega)]
    congr 1
    omega
