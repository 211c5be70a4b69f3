/-! A PLAN IS KEPT -/
def uKp (A : zMm) (q : Int) : zMm := zup (zfl A 5 (2001 * q) (2001 * q + 2001) (fun j => A 2 (58 + (j - 2001 * q)))) 0 1022 (q + 1)
def uDown (A : zMm) : zMm := zup (zfl A 5 0 14007 (fun j => A 5 (j + 2001))) 0 1022 7
def uSnap (A : zMm) : zMm := if A 0 1022 = 8 then uKp (uDown A) 7 else uKp A (A 0 1022)
theorem uKp_o {A : zMm} {q o j : Int} (h : ¬ (o = 5 ∨ (o = 0 ∧ j = 1022))) : uKp A q o j = A o j := by
  unfold uKp
  rw [zup_ne (by omega), zfl_ne (by omega)]
theorem uDown_o {A : zMm} {o j : Int} (h : ¬ (o = 5 ∨ (o = 0 ∧ j = 1022))) : uDown A o j = A o j := by
  unfold uDown
  rw [zup_ne (by omega), zfl_ne (by omega)]
theorem uSnap_o {A : zMm} {o j : Int} (h : ¬ (o = 5 ∨ (o = 0 ∧ j = 1022))) : uSnap A o j = A o j := by
  unfold uSnap
  split
  · rw [uKp_o h, uDown_o h]
  · rw [uKp_o h]
theorem uSnap_r {A : zMm} {o : Int} (h : o ≠ 5) (h0 : o ≠ 0) : uSnap A o = A o := funext fun j => uSnap_o (by omega)
theorem uSnap_t {A : zMm} {t d : Int} (ht : 0 ≤ t ∧ t < 8) (hd : d = 0 ∨ (d = 1 ∧ t = 7)) (hu : A 0 1022 = t + d) : uSnap A 0 1022 = t + 1 := by
  unfold uSnap
  rcases hd with rfl | ⟨rfl, rfl⟩
  · rw [if_neg (by omega)]
    unfold uKp
    rw [zup_at]
    omega
  · rw [if_pos (by omega)]
    unfold uKp
    rw [zup_at]
theorem uSnap_5 {A : zMm} {t d : Int} (ht : 0 ≤ t ∧ t < 8) (hd : d = 0 ∨ (d = 1 ∧ t = 7)) (hu : A 0 1022 = t + d) {q j : Int} (h0 : 0 ≤ q) (h1 : q ≤ t) (h2 : 0 ≤ j) (h3 : j < 2001) :
    uSnap A 5 (2001 * q + j) = if q = t then A 2 (58 + j) else A 5 (2001 * (q + d) + j) := by
  unfold uSnap
  rcases hd with rfl | ⟨rfl, rfl⟩
  · rw [if_neg (by omega)]
    unfold uKp
    rw [zup_ne (by omega)]
    unfold zfl
    by_cases e : q = t
    · rw [if_pos e, if_pos ⟨rfl, by omega, by omega⟩]
      show A 2 (58 + (2001 * q + j - 2001 * (A 0 1022))) = A 2 (58 + j)
      congr 1
      omega
    · rw [if_neg e, if_neg (by omega)]
      congr 1
      omega
  · rw [if_pos (by omega)]
    unfold uKp
    rw [zup_ne (by omega)]
    unfold zfl
    by_cases e : q = 7
    · rw [if_pos e, if_pos ⟨rfl, by omega, by omega⟩]
      show uDown A 2 (58 + (2001 * q + j - 2001 * 7)) = A 2 (58 + j)
      rw [uDown_o (by omega)]
      congr 1
      omega
    · rw [if_neg e, if_neg (by omega)]
      unfold uDown
      rw [zup_ne (by omega)]
      unfold zfl
      rw [if_pos ⟨rfl, by omega, by omega⟩]
      show A 5 (2001 * q + j + 2001) = A 5 (2001 * (q + 1) + j)
      congr 1
      omega
theorem aVd.snap {A : zMm} (h : aVd A) : vUn (uSnap A 0 1022) (uSnap A 5) := by
  obtain ⟨⟨u0, u1⟩, hu⟩ := h.un
  have key : ∀ t d : Int, (0 ≤ t ∧ t < 8) → (d = 0 ∨ (d = 1 ∧ t = 7)) → A 0 1022 = t + d → vUn (uSnap A 0 1022) (uSnap A 5) := by
    intro t d ht hd he
    refine ⟨by rw [uSnap_t ht hd he]; omega, fun q q0 q1 => ?_⟩
    rw [uSnap_t ht hd he] at q1
    have hz : uSnap A 5 (2001 * q) = if q = t then A 2 58 else A 5 (2001 * (q + d)) := by
      have e := uSnap_5 ht hd he q0 (by omega) (Int.le_refl 0) (by omega)
      rw [Int.add_zero, Int.add_zero, Int.add_zero] at e
      exact e
    by_cases e : q = t
    · rw [if_pos e] at hz
      refine zGV.gc h.pl hz (fun k w k0 k1 w0 w1 => ?_)
      have hn := h.pl.2.1
      have e2 := uSnap_5 ht hd he q0 (by omega) (j := 1 + 5 * k + w) (by omega) (by omega)
      rw [if_pos e] at e2
      show uSnap A 5 (2001 * q + 1 + 5 * k + w) = A 2 (58 + 1 + 5 * k + w)
      rw [show 2001 * q + 1 + 5 * k + w = 2001 * q + (1 + 5 * k + w) by omega, e2]
      congr 1
      omega
    · rw [if_neg e] at hz
      have hg := hu (q + d) (by omega) (by omega)
      refine zGV.gc hg hz (fun k w k0 k1 w0 w1 => ?_)
      have hn := hg.2.1
      have e2 := uSnap_5 ht hd he q0 (by omega) (j := 1 + 5 * k + w) (by omega) (by omega)
      rw [if_neg e] at e2
      show uSnap A 5 (2001 * q + 1 + 5 * k + w) = A 5 (2001 * (q + d) + 1 + 5 * k + w)
      rw [show 2001 * q + 1 + 5 * k + w = 2001 * q + (1 + 5 * k + w) by omega, e2]
      congr 1
      omega
  by_cases e : A 0 1022 = 8
  · exact key 7 1 (by omega) (Or.inr ⟨rfl, rfl⟩) (by omega)
  · exact key (A 0 1022) 0 (by omega) (Or.inl rfl) (by omega)
/-- the plan p was written and lies at place t of those kept; the others moved down by d -/
theorem rel.keep {S S2 : zS} {m m2 : zMm} {x p t d : Int} {A : zMm} (h : rel S m x A) (hS : zGr S S2) (hp0 : 0 ≤ p) (hp : x + 91 ≤ p) (hpp : zPR S2 m2 p (A 2 58) (aGo (A 2) 58))
    (hm : ∀ k j, 0 ≤ k → k < 54 → ¬ ((k = 0 ∧ j = 17) ∨ k = 29) → m2 (x + k) j = m (x + k) j) (hf : ∀ a, x + 91 ≤ a → zk S a ≠ 0 → (a < p ∨ p + 6 ≤ a) → ∀ j, m2 a j = m a j)
    (ht : 0 ≤ t ∧ t < 8) (hd : d = 0 ∨ (d = 1 ∧ t = 7)) (hu : A 0 1022 = t + d) (hu2 : m2 x 17 = t + 1) (ha : ∀ q, 0 ≤ q → q < 8 → m2 (x + 29) q = if q = t then p else m (x + 29) (q + d))
    (hn : ∀ q, 0 ≤ q → q < 8 → q ≠ t → m (x + 29) (q + d) ≠ p) (hi : ∀ i, 0 ≤ i → i < 2 → m (x + 52) i ≠ p) : rel S2 m2 x (uSnap A) := by
  obtain ⟨r1, r2, r3, r4⟩ := h.un
  refine h.set_un hS (fun k j k0 k1 _ hne => hm k j k0 k1 hne) ?_ (fun o j hne => uSnap_o hne) h.vd.snap ⟨⟨?_, ?_, ?_, ?_⟩, ?_⟩
  · rintro a a0 a1 ⟨j, hj⟩
    refine ⟨t, ht.1, ht.2, ?_⟩
    rw [ha t ht.1 ht.2, if_pos rfl]
    refine ⟨by omega, ?_, ?_, hpp.1⟩
    · refine Classical.byContradiction fun q => hj (hf a a0 a1.1 (by omega) j)
    · refine Classical.byContradiction fun q => hj (hf a a0 a1.1 (by omega) j)
  · rw [uSnap_t ht hd hu]
    exact hu2
  · intro q q0 q1
    rw [ha q q0 q1]
    by_cases e : q = t
    · rw [if_pos e]
      exact Or.inr ⟨hp, hpp.1⟩
    · rw [if_neg e]
      rcases r2 (q + d) (by omega) (by omega) with e2 | ⟨e2, e3⟩
      · exact Or.inl e2
      · exact Or.inr ⟨e2, e3.gr hS⟩
  · intro q q0 q1
    rw [uSnap_t ht hd hu] at q1
    have hz : uSnap A 5 (2001 * q) = if q = t then A 2 58 else A 5 (2001 * (q + d)) := by
      have e := uSnap_5 ht hd hu q0 (by omega) (Int.le_refl 0) (by omega)
      rw [Int.add_zero, Int.add_zero, Int.add_zero] at e
      exact e
    rw [ha q q0 (by omega)]
    by_cases e : q = t
    · rw [if_pos e] at hz
      rw [if_pos e]
      refine ⟨hp, hpp.gc hz (fun k w k0 k1 w0 w1 => ?_)⟩
      have hn := h.vpl.2.1
      have e2 := uSnap_5 ht hd hu q0 (by omega) (j := 1 + 5 * k + w) (by omega) (by omega)
      rw [if_pos e] at e2
      show uSnap A 5 (2001 * q + 1 + 5 * k + w) = A 2 (58 + 1 + 5 * k + w)
      rw [show 2001 * q + 1 + 5 * k + w = 2001 * q + (1 + 5 * k + w) by omega, e2]
      congr 1
      omega
    · rw [if_neg e] at hz
      rw [if_neg e]
      obtain ⟨g1, g2⟩ := r3 (q + d) (by omega) (by omega)
      have hap := g2.1.gr hS
      have hap2 := hap.ap hpp.1 (hn q q0 (by omega) e)
      refine ⟨g1, (g2.fr hS (fun a a0 a1 j => hf a (by omega) (g2.1.kc a a0 a1).1 (by omega) j)).gc hz (fun k w k0 k1 w0 w1 => ?_)⟩
      have hg := (h.vun.2 (q + d) (by omega) (by omega)).2.1
      have e2 := uSnap_5 ht hd hu q0 (by omega) (j := 1 + 5 * k + w) (by omega) (by omega)
      rw [if_neg e] at e2
      show uSnap A 5 (2001 * q + 1 + 5 * k + w) = A 5 (2001 * (q + d) + 1 + 5 * k + w)
      rw [show 2001 * q + 1 + 5 * k + w = 2001 * q + (1 + 5 * k + w) by omega, e2]
      congr 1
      omega
  · intro q r q0 q1 q2
    rw [ha q q0 (by omega), ha r (by omega) q2]
    by_cases e : q = t
    · rw [if_pos e, if_neg (by omega)]
      exact Or.inr (fun z => hn r (by omega) q2 (by omega) z.symm)
    · rw [if_neg e]
      by_cases e2 : r = t
      · rw [if_pos e2]
        exact Or.inr (hn q q0 (by omega) e)
      · rw [if_neg e2]
        exact r4 (q + d) (r + d) (by omega) (by omega) (by omega)
  · intro q i q0 q1 i0 i1
    rw [ha q q0 q1]
    by_cases e : q = t
    · rw [if_pos e]
      exact Or.inr (fun z => hi i i0 i1 z.symm)
    · rw [if_neg e]
      exact h.im.2.2 (q + d) i (by omega) (by omega) i0 i1
theorem yEq.snap {m : zMm} {b : Int} {A : zMm} (h : yEq m b A) : yEq (ysnap m b) b (uSnap A) := by
  have kp : ∀ {m : zMm} {A : zMm} {q : Int}, yEq m b A → yEq (yput m b q) b (uKp A q) := fun h => by
    unfold yput uKp
    exact (h.fl (by omega) (fun j _ _ => h 2 _ (by omega) (by omega))).up0
  have dn : yEq (ydown m b) b (uDown A) := by
    unfold ydown uDown
    exact (h.fl (by omega) (fun j _ _ => h 5 _ (by omega) (by omega))).up0
  unfold ysnap uSnap
  rw [h.at]
  split
  · exact kp dn
  · exact kp h
