/-! EARLIER -/
theorem aWhy_c {K : Int → Int} {g h : zGo} {k t : Int} (h0 : ∀ j w, 0 ≤ j → j < k → 0 ≤ w → w < 5 → g j w = h j w) (h1 : g k 0 = h k 0 ∧ g k 1 = h k 1 ∧ g k 3 = h k 3 ∧ g k 4 = h k 4) : aWhy K g k t = aWhy K h k t := by
  obtain ⟨e0, e1, e3, e4⟩ := h1
  have hh : ∀ s c, ahad g s c k = ahad h s c k := fun s c => zs_c (fun j a b => by rw [h0 j 0 a b (by omega) (by omega), h0 j 1 a b (by omega) (by omega), h0 j 4 a b (by omega) (by omega)])
  have p1 : (∃ i, 0 ≤ i ∧ i < k ∧ aW1 g k t i) ↔ (∃ i, 0 ≤ i ∧ i < k ∧ aW1 h k t i) := exists_congr fun i => by
    by_cases q : 0 ≤ i ∧ i < k
    · unfold aW1
      rw [e3, e4, h0 i 2 q.1 q.2 (by omega) (by omega), h0 i 3 q.1 q.2 (by omega) (by omega), h0 i 4 q.1 q.2 (by omega) (by omega)]
    · constructor <;> (intro z; exact absurd ⟨z.1, z.2.1⟩ q)
  have p2 : (∃ i, 0 ≤ i ∧ i < k ∧ aW2 g k t i) ↔ (∃ i, 0 ≤ i ∧ i < k ∧ aW2 h k t i) := exists_congr fun i => by
    by_cases q : 0 ≤ i ∧ i < k
    · unfold aW2
      rw [e0, e4, h0 i 2 q.1 q.2 (by omega) (by omega), h0 i 0 q.1 q.2 (by omega) (by omega), h0 i 4 q.1 q.2 (by omega) (by omega)]
    · constructor <;> (intro z; exact absurd ⟨z.1, z.2.1⟩ q)
  have p5 : (∃ i, 0 ≤ i ∧ i < k ∧ aW5 K g k t i) ↔ (∃ i, 0 ≤ i ∧ i < k ∧ aW5 K h k t i) := exists_congr fun i => by
    by_cases q : 0 ≤ i ∧ i < k
    · unfold aW5
      rw [e0, e1, e4, h0 i 0 q.1 q.2 (by omega) (by omega), h0 i 1 q.1 q.2 (by omega) (by omega), h0 i 2 q.1 q.2 (by omega) (by omega), h0 i 4 q.1 q.2 (by omega) (by omega)]
    · constructor <;> (intro z; exact absurd ⟨z.1, z.2.1⟩ q)
  unfold aWhy
  rw [propext p1, propext p2, propext p5, e0, e1, e4, hh]
/-- the first minute in which go k is not wrong, ahead of its own; none: its own -/
noncomputable def fEl (K : Int → Int) (g : zGo) (k : Int) : Int := zite (zfi (fun t => aWhy K g k t = 0) (g k 2) = -1) (g k 2) (zfi (fun t => aWhy K g k t = 0) (g k 2))
theorem fEl_b {K : Int → Int} {g : zGo} {k : Int} (h : 0 ≤ g k 2) : 0 ≤ fEl K g k ∧ fEl K g k ≤ g k 2 := by
  unfold fEl
  rcases zfi_i (P := fun t => aWhy K g k t = 0) h with ⟨e, _⟩ | ⟨a, b, _⟩
  · rw [zite_t e]; omega
  · rw [zite_f (by omega)]; omega
theorem fEl_t {K : Int → Int} {g : zGo} {k t : Int} (hz : ∀ j, 0 ≤ j → j < t → ¬ aWhy K g k j = 0) (t0 : 0 ≤ t) (t1 : t < g k 2) (h : aWhy K g k t = 0) : fEl K g k = t := by
  unfold fEl
  rw [zfi_t hz t0 t1 h, zite_f (by omega)]
theorem fEl_f {K : Int → Int} {g : zGo} {k : Int} (hz : ∀ j, 0 ≤ j → j < g k 2 → ¬ aWhy K g k j = 0) : fEl K g k = g k 2 := by
  unfold fEl
  rw [zfi_f hz, zite_t rfl]
theorem fEl_c {K : Int → Int} {g h : zGo} {k : Int} (h0 : ∀ j w, 0 ≤ j → j < k → 0 ≤ w → w < 5 → g j w = h j w) (h1 : g k 0 = h k 0 ∧ g k 1 = h k 1 ∧ g k 3 = h k 3 ∧ g k 4 = h k 4) (h2 : g k 2 = h k 2) : fEl K g k = fEl K h k := by
  have e : (fun t => aWhy K g k t = 0) = (fun t => aWhy K h k t = 0) := funext fun t => by rw [aWhy_c h0 h1]
  unfold fEl
  rw [e, h2]
/-- the first k goes moved -/
noncomputable def eA (K : Int → Int) : Nat → zMm → zMm
  | 0, A => A
  | k + 1, A => uMove (eA K k A) (k : Int) (fEl K (aGo (eA K k A 2) 58) (k : Int))
noncomputable def eN (K : Int → Int) (A : zMm) : Nat → Int
  | 0 => 0
  | k + 1 => eN K A k + zq (fEl K (aGo (eA K k A 2) 58) (k : Int) < aGo (eA K k A 2) 58 (k : Int) 2)
theorem uMove_g {A : zMm} {k f i w : Int} (w0 : 0 ≤ w) (w1 : w < 5) : aGo (uMove A k f 2) 58 i w = if i = k ∧ w = 2 then f else aGo (A 2) 58 i w := by
  unfold aGo uMove zup
  by_cases e : i = k ∧ w = 2
  · rw [if_pos ⟨rfl, by omega⟩, if_pos e]
  · rw [if_neg (by omega), if_neg e]
theorem uMove_id {A : zMm} {k : Int} : uMove A k (aGo (A 2) 58 k 2) = A := by
  unfold uMove aGo
  funext o j
  unfold zup
  by_cases h : o = 2 ∧ j = 59 + 5 * k + 2
  · rw [if_pos h, h.1, h.2]
    congr 1
  · rw [if_neg h]
theorem eA_n {K : Int → Int} {A : zMm} : ∀ k : Nat, eA K k A 2 58 = A 2 58 := by
  intro k
  induction k with
  | zero => rfl
  | succ k ih =>
    show uMove _ _ _ 2 58 = _
    unfold uMove
    rw [zup_ne (by omega), ih]
theorem eA_g {K : Int → Int} {A : zMm} : ∀ (k : Nat) (i w : Int), 0 ≤ w → w < 5 → (w ≠ 2 ∨ i < 0 ∨ (k : Int) ≤ i) → aGo (eA K k A 2) 58 i w = aGo (A 2) 58 i w := by
  intro k
  induction k with
  | zero => intro i w _ _ _; rfl
  | succ k ih =>
    intro i w w0 w1 h
    show aGo (uMove _ _ _ 2) 58 i w = _
    rw [uMove_g w0 w1, if_neg (by omega)]
    exact ih i w w0 w1 (by omega)
theorem eA_v {K : Int → Int} {A : zMm} (hv : zGV (A 2 58) (aGo (A 2) 58)) : ∀ k : Nat, (k : Int) ≤ A 2 58 → zGV (A 2 58) (aGo (eA K k A 2) 58) := by
  intro k
  induction k with
  | zero => intro _; exact hv
  | succ k ih =>
    intro hk
    have e := ih (by omega)
    have f := fEl_b (K := K) (g := aGo (eA K k A 2) 58) (k := (k : Int)) (e.2.2 (k : Int) (by omega) (by omega)).2.2.2.2.1
    refine ⟨hv.1, hv.2.1, fun i i0 i1 => ?_⟩
    have q := e.2.2 i i0 i1
    show _ ∧ _
    simp only [eA]
    rw [uMove_g (by omega) (by omega), uMove_g (by omega) (by omega), uMove_g (by omega) (by omega), uMove_g (by omega) (by omega), uMove_g (by omega) (by omega), if_neg (by omega), if_neg (by omega), if_neg (c := i = (k : Int) ∧ (3 : Int) = 2) (by omega), if_neg (c := i = (k : Int) ∧ (4 : Int) = 2) (by omega)]
    by_cases h : i = (k : Int)
    · subst h
      rw [if_pos ⟨rfl, rfl⟩]
      omega
    · rw [if_neg (fun z => h z.1)]
      exact q
theorem eA_pl {K : Int → Int} {A : zMm} (hn : A 2 58 ≤ 400) : ∀ k : Nat, (k : Int) ≤ A 2 58 → aPl A (eA K k A) := by
  intro k
  induction k with
  | zero => intro _; exact aPl.rf
  | succ k ih =>
    intro hk o j q
    show uMove _ _ _ o j = _
    unfold uMove
    rw [zup_ne (by omega)]
    exact ih (by omega) o j q
theorem eA_2 {K : Int → Int} {A B : zMm} (h : A 2 = B 2) : ∀ k : Nat, eA K k A 2 = eA K k B 2 := by
  intro k
  induction k with
  | zero => exact h
  | succ k ih =>
    show uMove _ _ _ 2 = uMove _ _ _ 2
    rw [ih]
    unfold uMove
    funext j
    unfold zup
    rw [ih]
theorem eN_b {K : Int → Int} {A : zMm} : ∀ k : Nat, 0 ≤ eN K A k ∧ eN K A k ≤ (k : Int) := by
  intro k
  induction k with
  | zero => exact ⟨Int.le_refl _, Int.le_refl _⟩
  | succ k ih =>
    show 0 ≤ eN K A k + zq _ ∧ eN K A k + zq _ ≤ _
    rcases zq_01 (fEl K (aGo (eA K k A 2) 58) (k : Int) < aGo (eA K k A 2) 58 (k : Int) 2) with e | e <;> rw [e] <;> omega
/-- none moves: all stays -/
theorem eN_0 {K : Int → Int} {A : zMm} (hv : zGV (A 2 58) (aGo (A 2) 58)) : ∀ k : Nat, (k : Int) ≤ A 2 58 → eN K A k = 0 → eA K k A = A ∧ ∀ i, 0 ≤ i → i < (k : Int) → ¬ fEl K (aGo (A 2) 58) i < aGo (A 2) 58 i 2 := by
  intro k
  induction k with
  | zero => intro _ _; exact ⟨rfl, fun i a b => by omega⟩
  | succ k ih =>
    intro hk hz
    have b := eN_b (K := K) (A := A) k
    have hz2 : eN K A k + zq (fEl K (aGo (eA K k A 2) 58) (k : Int) < aGo (eA K k A 2) 58 (k : Int) 2) = 0 := hz
    have hq : ¬ fEl K (aGo (eA K k A 2) 58) (k : Int) < aGo (eA K k A 2) 58 (k : Int) 2 := fun q => by rw [zq_t q] at hz2; omega
    rw [zq_f hq] at hz2
    obtain ⟨e1, e2⟩ := ih (by omega) (by omega)
    rw [e1] at hq
    have f := fEl_b (K := K) (g := aGo (A 2) 58) (k := (k : Int)) (hv.2.2 (k : Int) (by omega) (by omega)).2.2.2.2.1
    refine ⟨?_, fun i a c => ?_⟩
    · show uMove _ _ _ = _
      rw [e1, show fEl K (aGo (A 2) 58) (k : Int) = aGo (A 2) 58 (k : Int) 2 by omega, uMove_id]
    · by_cases h : i = (k : Int)
      · rw [h]; exact hq
      · exact e2 i a (by omega)
theorem eN_1 {K : Int → Int} {A : zMm} (hv : zGV (A 2 58) (aGo (A 2) 58)) : ∀ k : Nat, (k : Int) ≤ A 2 58 → (∀ i, 0 ≤ i → i < (k : Int) → ¬ fEl K (aGo (A 2) 58) i < aGo (A 2) 58 i 2) → eN K A k = 0 := by
  intro k
  induction k with
  | zero => intro _ _; rfl
  | succ k ih =>
    intro hk h
    have e := ih (by omega) (fun i a b => h i a (by omega))
    have e2 := (eN_0 hv k (by omega) e).1
    show eN K A k + zq _ = 0
    rw [e2, zq_f (h (k : Int) (by omega) (by omega)), e]
    rfl
theorem eN_2 {K : Int → Int} {A B : zMm} (h : A 2 = B 2) : ∀ k : Nat, eN K A k = eN K B k := by
  intro k
  induction k with
  | zero => rfl
  | succ k ih =>
    show eN K A k + zq _ = eN K B k + zq _
    rw [ih, eA_2 h k]
theorem aWhy_K {K K' : Int → Int} {g : zGo} {k t : Int} (e : ∀ j, 0 ≤ j → j < 58 → K j = K' j) (h : 0 ≤ g k 0 ∧ g k 0 < 8 ∧ 0 ≤ g k 1 ∧ g k 1 < 2) : aWhy K g k t = aWhy K' g k t := by
  unfold aWhy aW5
  rw [e 1 (by omega) (by omega), e (8 + 3 * g k 0 + g k 1) (by omega) (by omega), e (8 + 3 * g k 0 + 2) (by omega) (by omega)]
theorem fEl_K {K K' : Int → Int} {g : zGo} {k : Int} (e : ∀ j, 0 ≤ j → j < 58 → K j = K' j) (h : 0 ≤ g k 0 ∧ g k 0 < 8 ∧ 0 ≤ g k 1 ∧ g k 1 < 2) : fEl K g k = fEl K' g k := by
  have q : (fun t => aWhy K g k t = 0) = (fun t => aWhy K' g k t = 0) := funext fun t => by rw [aWhy_K e h]
  unfold fEl
  rw [q]
theorem uLay_1 {A : zMm} (h : A 0 1023 = 1) : uLay A = A := by
  unfold uLay
  rw [if_neg (by omega)]
