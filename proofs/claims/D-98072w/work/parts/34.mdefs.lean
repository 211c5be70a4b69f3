/-! THE MODEL'S BLOCK IS A -/
def yEq (m : zMm) (b : Int) (A : zMm) : Prop := ∀ o j, 0 ≤ o → o < 36 → m (b + o) j = A o j
/-- the model's row says the kitchen (but for its first five numbers, where nobody told one) and the plan of the block A -/
def yR (m : zMm) (b : Int) (A : zMm) : Prop := (∀ j, 5 ≤ j → j < 58 → m (b + 2) j = aK (A 0 1023) (A 2) j) ∧ zMG m b (A 2 58) (aGo (A 2) 58) ∧ zRow m b
def yL (m : zMm) (b : Int) (A : zMm) : Prop := yR m b A ∧ zMK m b (aK (A 0 1023) (A 2))
theorem yR.k {m : zMm} {b : Int} {A : zMm} (h : yR m b A) : ∀ j, 5 ≤ j → j < 58 → m (b + 2) j = aK (A 0 1023) (A 2) j := h.1
theorem yR.g {m : zMm} {b : Int} {A : zMm} (h : yR m b A) : zMG m b (A 2 58) (aGo (A 2) 58) := h.2.1
theorem yR.r {m : zMm} {b : Int} {A : zMm} (h : yR m b A) : zRow m b := h.2.2
theorem yR.n {m : zMm} {b : Int} {A : zMm} (h : yR m b A) : m (b + 2) 58 = A 2 58 := h.2.1.1
theorem yR.s {m : zMm} {b : Int} {A : zMm} (h : yR m b A) : m (b + 2) 5 = aK (A 0 1023) (A 2) 5 := h.1 5 (by omega) (by omega)
theorem yR.row {m m2 : zMm} {b : Int} {A : zMm} (h : yR m b A) (e : ∀ j, m2 (b + 2) j = m (b + 2) j) : yR m2 b A := by
  unfold yR zMG zRow at h ⊢
  simp only [e]
  exact h
theorem yR.up {m : zMm} {a b i v : Int} {A : zMm} (h : yR m b A) (ha : a ≠ b + 2) : yR (zup m a i v) b A := h.row (fun j => by rw [zup_ne (fun q => ha q.1.symm)])
theorem yL.row {m m2 : zMm} {b : Int} {A : zMm} (h : yL m b A) (e : ∀ j, m2 (b + 2) j = m (b + 2) j) : yL m2 b A := ⟨h.1.row e, fun i i0 i1 => by rw [e]; exact h.2 i i0 i1⟩
theorem yL.up {m : zMm} {a b i v : Int} {A : zMm} (h : yL m b A) (ha : a ≠ b + 2) : yL (zup m a i v) b A := h.row (fun j => by rw [zup_ne (fun q => ha q.1.symm)])
theorem aK0_0 {j : Int} (h : 5 ≤ j) : aK0 j = 0 := by
  unfold aK0
  rw [if_neg (by omega), if_neg (by omega), if_neg (by omega)]
theorem zrow5 {m : zMm} {b n : Int} {K : Int → Int} {g : zGo} (hK : ∀ j, 5 ≤ j → j < 58 → m (b + 2) j = K j) (hG : zMG m b n g) (vK : zKV K) (vG : zGV n g) : zRow m b := by
  obtain ⟨v0, v1, v2, v3⟩ := vK
  have k5 := hK 5 (by omega) (by omega)
  have k6 := hK 6 (by omega) (by omega)
  have k7 := hK 7 (by omega) (by omega)
  have g0 := hG.1
  have gv := vG.1
  have gv1 := vG.2.1
  refine ⟨by omega, by omega, by omega, by omega, by omega, by omega, by omega, by omega, fun s c s0 s1 c0 c1 => ?_, fun k k0 k1 => ?_⟩
  · have a := hK (8 + 3 * s + c) (by omega) (by omega)
    have e := v1 s (by omega) (by omega)
    have hc : c = 0 ∨ c = 1 := by omega
    rcases hc with rfl | rfl <;> omega
  · have e := vG.2.2 k (by omega) (by omega)
    have a0 := hG.2 k 0 (by omega) (by omega) (by omega) (by omega)
    have a1 := hG.2 k 1 (by omega) (by omega) (by omega) (by omega)
    have a2 := hG.2 k 2 (by omega) (by omega) (by omega) (by omega)
    have a3 := hG.2 k 3 (by omega) (by omega) (by omega) (by omega)
    have a4 := hG.2 k 4 (by omega) (by omega) (by omega) (by omega)
    omega
theorem aK_5 {bg j : Int} {R : Int → Int} (hV : vBg bg R) (h : 5 ≤ j) : R j = aK bg R j := by
  unfold aK
  rcases hV with q | ⟨q, q2⟩
  · rw [if_neg (by omega)]
  · rw [if_pos q, aK0_0 h, q2]
theorem yEq.R {m : zMm} {b : Int} {A : zMm} (h : yEq m b A) (hV : aVd A) : yR m b A := by
  have hk : ∀ j, 5 ≤ j → j < 58 → m (b + 2) j = aK (A 0 1023) (A 2) j := fun j j0 j1 => by rw [h 2 j (by omega) (by omega), aK_5 hV.bg j0]
  have hg : zMG m b (A 2 58) (aGo (A 2) 58) := ⟨h 2 58 (by omega) (by omega), fun k w k0 k1 w0 w1 => by
    rw [h 2 _ (by omega) (by omega)]
    show A 2 (59 + 5 * k + w) = A 2 (58 + 1 + 5 * k + w)
    congr 1⟩
  exact ⟨hk, hg, zrow5 hk hg hV.ki.1 hV.pl⟩
/-- behind lay() the row is laid -/
theorem yEq.L {m : zMm} {b : Int} {A : zMm} (h : yEq m b A) (hV : aVd A) : yL (ylaid m b) b A := by
  have hR := h.R hV
  have hb : m b 1023 = A 0 1023 := by have q := h 0 1023 (by omega) (by omega); rw [Int.add_zero] at q; exact q
  rcases hV.bg with q | ⟨q, q2⟩
  · have e : ylaid m b = m := by unfold ylaid; rw [if_neg (by omega)]
    rw [e]
    refine ⟨hR, fun i i0 i1 => ?_⟩
    unfold aK
    rw [if_neg (by omega), h 2 i (by omega) (by omega)]
  · have e : ∀ j, ylaid m b (b + 2) j = if 0 ≤ j ∧ j < 58 then aK0 j else 0 := fun j => by
      unfold ylaid yplain
      rw [if_pos (by omega)]
      by_cases hj : 0 ≤ j ∧ j < 58
      · rw [if_pos ⟨rfl, hj⟩, if_pos hj]
      · rw [if_neg (fun z => hj z.2), if_neg hj, zup_ne (by omega), h 2 j (by omega) (by omega), q2]
    have hk : zMK (ylaid m b) b (aK (A 0 1023) (A 2)) := fun i i0 i1 => by
      rw [e, if_pos ⟨i0, i1⟩]
      unfold aK
      rw [if_pos q]
    have hg : zMG (ylaid m b) b (A 2 58) (aGo (A 2) 58) := ⟨by rw [e, if_neg (by omega), q2], fun k w k0 k1 w0 w1 => by rw [q2] at k1; omega⟩
    exact ⟨⟨fun j j0 j1 => hk j (by omega) j1, hg, zrow5 (fun j j0 j1 => hk j (by omega) j1) hg hV.ki.1 hV.pl⟩, hk⟩
theorem yEq.L2 {m m2 : zMm} {b : Int} {A : zMm} (h : yEq m b A) (hV : aVd A) (e : ∀ j, m2 (b + 2) j = m (b + 2) j) (e2 : m2 b 1023 = m b 1023) : yL (ylaid m2 b) b A := by
  refine (h.L hV).row (fun j => ?_)
  unfold ylaid yplain
  rw [e2]
  by_cases hb : m b 1023 = 0
  · rw [if_pos hb, if_pos hb]
    by_cases hj : b + 2 = b + 2 ∧ 0 ≤ j ∧ j < 58
    · rw [if_pos hj, if_pos hj]
    · rw [if_neg hj, if_neg hj, zup_ne (by omega), zup_ne (by omega), e]
  · rw [if_neg hb, if_neg hb, e]
theorem ylaid_f {m : zMm} {b j : Int} (h : j ≠ 1023) : ylaid m b b j = m b j := by
  unfold ylaid
  split
  · unfold yplain
    rw [if_neg (by omega), zup_ne (fun q => h q.2)]
  · rfl
theorem ylaid_o {m : zMm} {a b j : Int} (h : a ≠ b) (h2 : a ≠ b + 2) : ylaid m b a j = m a j := by
  unfold ylaid
  split
  · unfold yplain
    rw [if_neg (fun q => h2 q.1), zup_ne (fun q => h q.1)]
  · rfl
