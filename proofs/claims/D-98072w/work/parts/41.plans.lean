/-! THE PLAN CHANGES: the class's cells against the block's row -/
theorem rel.plan {S : zS} {m m2 : zMm} {x : Int} {A A2 : zMm} (h : rel S m x A) (hb : A 0 1023 = 1) (hm : ∀ a j, a < x + 14 ∨ x + 20 ≤ a → m2 a j = m a j) (hA : ∀ o j, ¬ (o = 2 ∧ 58 ≤ j ∧ j < 2059) → A2 o j = A o j)
    (hv : zGV (A2 2 58) (aGo (A2 2) 58)) (hc : zPR S m2 (x + 14) (A2 2 58) (aGo (A2 2) 58)) : rel S m2 x A2 :=
  h.set_pl zGr.rf (fun k j _ _ _ hn => hm _ j (by omega)) (fun a a0 _ j => hm a j (by omega)) hA ⟨Or.inl (by rw [hA 0 1023 (by omega)]; exact hb), hv⟩ hc
theorem zGV.snoc {n : Int} {g g' : zGo} (h : zGV n g) (hn : n < 400) (hg : ∀ k w, 0 ≤ k → k < n → 0 ≤ w → w < 5 → g' k w = g k w)
    (hr : 0 ≤ g' n 0 ∧ g' n 0 < 8 ∧ 0 ≤ g' n 1 ∧ g' n 1 < 2 ∧ 0 ≤ g' n 2 ∧ g' n 2 ≤ 900 ∧ 0 ≤ g' n 3 ∧ g' n 3 < 4 ∧ 1 ≤ g' n 4 ∧ g' n 4 ≤ 400) : zGV (n + 1) g' := by
  obtain ⟨h1, h2, h3⟩ := h
  refine ⟨by omega, by omega, fun k k0 k1 => ?_⟩
  by_cases e : k = n
  · rw [e]
    exact hr
  · rw [hg k 0 k0 (by omega) (by omega) (by omega), hg k 1 k0 (by omega) (by omega) (by omega), hg k 2 k0 (by omega) (by omega) (by omega), hg k 3 k0 (by omega) (by omega) (by omega), hg k 4 k0 (by omega) (by omega) (by omega)]
    exact h3 k k0 (by omega)
theorem zgo_ne {m : zMm} {p s c f a v b j : Int} (h : b < p ∨ p + 6 ≤ b) : zgo m p s c f a v b j = m b j := by
  unfold zgo
  rw [zup_ne (by omega), zup_ne (by omega), zup_ne (by omega), zup_ne (by omega), zup_ne (by omega), zup_ne (by omega)]
theorem zPR.snoc {S : zS} {m : zMm} {p n s c f a v : Int} {g g' : zGo} (h : zPR S m p n g) (h0 : 0 ≤ n) (hg : ∀ k w, 0 ≤ k → k < n → 0 ≤ w → w < 5 → g' k w = g k w)
    (hr : g' n 0 = s ∧ g' n 1 = c ∧ g' n 2 = f ∧ g' n 3 = a ∧ g' n 4 = v) : zPR S (zgo m p s c f a v) p (n + 1) g' := by
  obtain ⟨h1, h2, h3⟩ := h
  refine ⟨h1, ?_, fun k k0 k1 => ?_⟩
  · unfold zgo
    rw [zup_at, h2]
  · have key : ∀ q w : Int, 1 ≤ q → q ≤ 5 → zgo m p s c f a v (p + q) k = if k = n then (if q = 1 then s else if q = 2 then c else if q = 3 then f else if q = 4 then a else v) else m (p + q) k := fun q w q0 q1 => by
      unfold zgo zup
      rw [h2]
      repeat' split
      all_goals first | rfl | omega
    rw [key 1 0 (by omega) (by omega), key 2 0 (by omega) (by omega), key 3 0 (by omega) (by omega), key 4 0 (by omega) (by omega), key 5 0 (by omega) (by omega)]
    by_cases e : k = n
    · simp only [if_pos e]
      rw [e, hr.1, hr.2.1, hr.2.2.1, hr.2.2.2.1, hr.2.2.2.2]
      exact ⟨rfl, rfl, rfl, rfl, rfl⟩
    · simp only [if_neg e]
      rw [hg k 0 k0 (by omega) (by omega) (by omega), hg k 1 k0 (by omega) (by omega) (by omega), hg k 2 k0 (by omega) (by omega) (by omega), hg k 3 k0 (by omega) (by omega) (by omega), hg k 4 k0 (by omega) (by omega) (by omega)]
      exact h3 k k0 (by omega)
/-- a go more -/
def uGo (A : zMm) (s c f a n : Int) : zMm := zup (zup (zup (zup (zup (zup A 2 (59 + 5 * A 2 58) s) 2 (59 + 5 * A 2 58 + 1) c) 2 (59 + 5 * A 2 58 + 2) f) 2 (59 + 5 * A 2 58 + 3) a) 2 (59 + 5 * A 2 58 + 4) n) 2 58 (A 2 58 + 1)
theorem uGo_n {A : zMm} {s c f a n : Int} : uGo A s c f a n 2 58 = A 2 58 + 1 := zup_at
theorem uGo_o {A : zMm} {s c f a n o j : Int} (h : ¬ (o = 2 ∧ (j = 58 ∨ (59 + 5 * A 2 58 ≤ j ∧ j < 64 + 5 * A 2 58)))) : uGo A s c f a n o j = A o j := by
  unfold uGo
  rw [zup_ne (by omega), zup_ne (by omega), zup_ne (by omega), zup_ne (by omega), zup_ne (by omega), zup_ne (by omega)]
theorem uGo_g {A : zMm} {s c f a n k w : Int} (k0 : 0 ≤ k) (k1 : k < A 2 58) (w0 : 0 ≤ w) (w1 : w < 5) : aGo (uGo A s c f a n 2) 58 k w = aGo (A 2) 58 k w := uGo_o (by omega)
theorem uGo_l {A : zMm} {s c f a n : Int} (h : 0 ≤ A 2 58) : aGo (uGo A s c f a n 2) 58 (A 2 58) 0 = s ∧ aGo (uGo A s c f a n 2) 58 (A 2 58) 1 = c ∧ aGo (uGo A s c f a n 2) 58 (A 2 58) 2 = f ∧ aGo (uGo A s c f a n 2) 58 (A 2 58) 3 = a ∧ aGo (uGo A s c f a n 2) 58 (A 2 58) 4 = n := by
  have key : ∀ w : Int, 0 ≤ w → w < 5 → aGo (uGo A s c f a n 2) 58 (A 2 58) w = if w = 0 then s else if w = 1 then c else if w = 2 then f else if w = 3 then a else n := fun w w0 w1 => by
    unfold aGo uGo zup
    repeat' split
    all_goals first | rfl | omega
  rw [key 0 (by omega) (by omega), key 1 (by omega) (by omega), key 2 (by omega) (by omega), key 3 (by omega) (by omega), key 4 (by omega) (by omega)]
  exact ⟨rfl, rfl, rfl, rfl, rfl⟩
theorem rel.go {S : zS} {m : zMm} {x s c f a n : Int} {A : zMm} (h : rel S m x A) (hb : A 0 1023 = 1) (hn : A 2 58 < 400) (hr : 0 ≤ s ∧ s < 8 ∧ 0 ≤ c ∧ c < 2 ∧ 0 ≤ f ∧ f ≤ 900 ∧ 0 ≤ a ∧ a < 4 ∧ 1 ≤ n ∧ n ≤ 400) : rel S (zgo m (x + 14) s c f a n) x (uGo A s c f a n) := by
  have hv := h.vpl
  have hl := uGo_l (s := s) (c := c) (f := f) (a := a) (n := n) hv.1
  refine h.plan hb (fun b j hb => zgo_ne (by omega)) (fun o j hne => uGo_o (by have := hv.1; omega)) ?_ ?_
  · rw [uGo_n]
    exact zGV.snoc hv hn (fun k w k0 k1 w0 w1 => uGo_g k0 k1 w0 w1) (by rw [hl.1, hl.2.1, hl.2.2.1, hl.2.2.2.1, hl.2.2.2.2]; exact hr)
  · rw [uGo_n]
    exact zPR.snoc h.pl hv.1 (fun k w k0 k1 w0 w1 => uGo_g k0 k1 w0 w1) hl
theorem yEq.go {m : zMm} {b s c f a n : Int} {A : zMm} (h : yEq m b A) : yEq (ylay m b s c f a n) b (uGo A s c f a n) := by
  unfold ylay uGo
  rw [h 2 58 (by omega) (by omega)]
  exact (((((h.up (by omega)).up (by omega)).up (by omega)).up (by omega)).up (by omega)).up (by omega)
/-- the k-th go is taken out -/
def uDrop (A : zMm) (k : Int) : zMm := zup (zfl A 2 (59 + 5 * k) (54 + 5 * A 2 58) (fun j => A 2 (j + 5))) 2 58 (A 2 58 - 1)
theorem uDrop_g {A : zMm} {k i w : Int} (h0 : 0 ≤ k) (i0 : 0 ≤ i) (i1 : i < A 2 58 - 1) (w0 : 0 ≤ w) (w1 : w < 5) : aGo (uDrop A k 2) 58 i w = if k ≤ i then aGo (A 2) 58 (i + 1) w else aGo (A 2) 58 i w := by
  unfold aGo uDrop
  rw [zup_ne (by omega)]
  unfold zfl
  by_cases e : k ≤ i
  · rw [if_pos ⟨rfl, by omega, by omega⟩, if_pos e]
    show A 2 (58 + 1 + 5 * i + w + 5) = A 2 (58 + 1 + 5 * (i + 1) + w)
    congr 1
    omega
  · rw [if_neg (by omega), if_neg e]
theorem rel.drop {S : zS} {m : zMm} {x k : Int} {A : zMm} (h : rel S m x A) (hb : A 0 1023 = 1) (h0 : 0 ≤ k) (h1 : k < A 2 58) : rel S (zdr m (x + 14) k (A 2 58 - 1)) x (uDrop A k) := by
  have hv := h.vpl
  have hp := h.pl
  have hn : uDrop A k 2 58 = A 2 58 - 1 := zup_at
  have v0 := hv.1
  have v1 := hv.2.1
  refine h.plan hb (fun b j hb => ?_) (fun o j hne => ?_) ?_ ?_
  · unfold zdr
    rw [if_neg (by omega), if_neg (by omega)]
  · unfold uDrop
    rw [zup_ne (by omega), zfl_ne (by omega)]
  · rw [hn]
    refine ⟨by omega, by omega, fun i i0 i1 => ?_⟩
    rw [uDrop_g h0 i0 i1 (by omega) (by omega), uDrop_g h0 i0 i1 (by omega) (by omega), uDrop_g h0 i0 i1 (by omega) (by omega), uDrop_g h0 i0 i1 (by omega) (by omega), uDrop_g h0 i0 i1 (by omega) (by omega)]
    by_cases e : k ≤ i
    · simp only [if_pos e]
      exact hv.2.2 (i + 1) (by omega) (by omega)
    · simp only [if_neg e]
      exact hv.2.2 i (by omega) (by omega)
  · rw [hn]
    refine ⟨hp.1, ?_, fun i i0 i1 => ?_⟩
    · rw [zdr_n, hp.2.1]
    · have key : ∀ q : Int, 1 ≤ q → q ≤ 5 → zdr m (x + 14) k (A 2 58 - 1) (x + 14 + q) i = if k ≤ i then m (x + 14 + q) (i + 1) else m (x + 14 + q) i := fun q q0 q1 => by
        unfold zdr
        by_cases e : k ≤ i
        · rw [if_pos (by omega), if_pos e]
        · rw [if_neg (by omega), if_neg (by omega), if_neg e]
      rw [key 1 (by omega) (by omega), key 2 (by omega) (by omega), key 3 (by omega) (by omega), key 4 (by omega) (by omega), key 5 (by omega) (by omega)]
      rw [uDrop_g h0 i0 i1 (by omega) (by omega), uDrop_g h0 i0 i1 (by omega) (by omega), uDrop_g h0 i0 i1 (by omega) (by omega), uDrop_g h0 i0 i1 (by omega) (by omega), uDrop_g h0 i0 i1 (by omega) (by omega)]
      by_cases e : k ≤ i
      · simp only [if_pos e]
        exact hp.2.2 (i + 1) (by omega) (by omega)
      · simp only [if_neg e]
        exact hp.2.2 i (by omega) (by omega)
/-- a go moves -/
def uMove (A : zMm) (k f : Int) : zMm := zup A 2 (59 + 5 * k + 2) f
theorem rel.move {S : zS} {m : zMm} {x k f : Int} {A : zMm} (h : rel S m x A) (hb : A 0 1023 = 1) (h0 : 0 ≤ k) (h1 : k < A 2 58) (hf : 0 ≤ f ∧ f ≤ 900) : rel S (zup m (x + 14 + 3) k f) x (uMove A k f) := by
  have hv := h.vpl
  have hp := h.pl
  have hn : uMove A k f 2 58 = A 2 58 := zup_ne (by omega)
  have v1 := hv.2.1
  have hg : ∀ i w, 0 ≤ i → i < A 2 58 → 0 ≤ w → w < 5 → aGo (uMove A k f 2) 58 i w = if i = k ∧ w = 2 then f else aGo (A 2) 58 i w := fun i w i0 i1 w0 w1 => by
    unfold aGo uMove zup
    by_cases e : i = k ∧ w = 2
    · rw [if_pos ⟨rfl, by omega⟩, if_pos e]
    · rw [if_neg (by omega), if_neg e]
  refine h.plan hb (fun b j hb => zup_ne (by omega)) (fun o j hne => zup_ne (by omega)) ?_ ?_
  · rw [hn]
    refine ⟨hv.1, hv.2.1, fun i i0 i1 => ?_⟩
    have q := hv.2.2 i i0 i1
    rw [hg i 0 i0 i1 (by omega) (by omega), hg i 1 i0 i1 (by omega) (by omega), hg i 2 i0 i1 (by omega) (by omega), hg i 3 i0 i1 (by omega) (by omega), hg i 4 i0 i1 (by omega) (by omega)]
    rw [if_neg (by omega), if_neg (by omega), if_neg (c := i = k ∧ (3 : Int) = 2) (by omega), if_neg (c := i = k ∧ (4 : Int) = 2) (by omega)]
    split <;> omega
  · rw [hn]
    refine ⟨hp.1, by rw [zup_ne (by omega)]; exact hp.2.1, fun i i0 i1 => ?_⟩
    have q := hp.2.2 i i0 i1
    rw [hg i 0 i0 i1 (by omega) (by omega), hg i 1 i0 i1 (by omega) (by omega), hg i 2 i0 i1 (by omega) (by omega), hg i 3 i0 i1 (by omega) (by omega), hg i 4 i0 i1 (by omega) (by omega)]
    rw [if_neg (by omega), if_neg (by omega), if_neg (c := i = k ∧ (3 : Int) = 2) (by omega), if_neg (c := i = k ∧ (4 : Int) = 2) (by omega)]
    unfold zup
    split
    · omega
    · split
      · omega
      · split
        · split
          · omega
          · omega
        · split
          · omega
          · omega
