/-! WHAT IS TOLD, AS PLAIN FUNCTIONS: a kitchen's numbers K (the places of the model's row), a plan of n goes g k w (w: slice, side, from, place, many) -/
noncomputable def zite (P : Prop) (a b : Int) : Int := @ite Int P (Classical.propDecidable P) a b
theorem zite_t {P : Prop} {a b : Int} (h : P) : zite P a b = a := @if_pos P (Classical.propDecidable P) h Int a b
theorem zite_f {P : Prop} {a b : Int} (h : ¬ P) : zite P a b = b := @if_neg P (Classical.propDecidable P) h Int a b
theorem zite_c {P R : Prop} {a b c e : Int} (h : P ↔ R) (h1 : R → a = c) (h2 : ¬ R → b = e) : zite P a b = zite R c e := by
  rw [propext h]
  by_cases hR : R
  · rw [zite_t hR, zite_t hR, h1 hR]
  · rw [zite_f hR, zite_f hR, h2 hR]
abbrev zGo : Type := Int → Int → Int
/-- goes in range -/
def zGV (n : Int) (g : zGo) : Prop := 0 ≤ n ∧ n ≤ 400 ∧ ∀ k, 0 ≤ k → k < n → 0 ≤ g k 0 ∧ g k 0 < 8 ∧ 0 ≤ g k 1 ∧ g k 1 < 2 ∧ 0 ≤ g k 2 ∧ g k 2 ≤ 900 ∧ 0 ≤ g k 3 ∧ g k 3 < 4 ∧ 1 ≤ g k 4 ∧ g k 4 ≤ 400
/-- numbers of a kitchen in range -/
def zKV (K : Int → Int) : Prop := (1 ≤ K 0 ∧ K 0 ≤ 4 ∧ 0 ≤ K 1 ∧ K 1 ≤ 9 ∧ 0 ≤ K 2 ∧ K 2 ≤ 99 ∧ 0 ≤ K 3 ∧ K 3 < K 4 ∧ K 4 ≤ 20 ∧ 0 ≤ K 5 ∧ K 5 ≤ 8 ∧ 0 ≤ K 6 ∧ K 6 ≤ 8 ∧ 0 ≤ K 7 ∧ K 7 ≤ 5) ∧
  (∀ s, 0 ≤ s → s < 8 → 0 ≤ K (8 + 3 * s + 0) ∧ K (8 + 3 * s + 0) ≤ 20 ∧ 0 ≤ K (8 + 3 * s + 1) ∧ K (8 + 3 * s + 1) ≤ 20 ∧ (s < K 5 → 1 ≤ K (8 + 3 * s + 0) ∧ 1 ≤ K (8 + 3 * s + 1)) ∧ 0 ≤ K (8 + 3 * s + 2) ∧ K (8 + 3 * s + 2) ≤ 1) ∧
  (∀ j, 0 ≤ j → j < 8 → 0 ≤ K (32 + 2 * j + 0) ∧ K (32 + 2 * j + 0) ≤ 240 ∧ 0 ≤ K (32 + 2 * j + 1) ∧ K (32 + 2 * j + 1) ≤ 99) ∧
  (∀ j, 0 ≤ j → j < 5 → 0 ≤ K (48 + 2 * j + 0) ∧ K (48 + 2 * j + 0) ≤ 9 ∧ 0 ≤ K (48 + 2 * j + 1) ∧ K (48 + 2 * j + 1) ≤ 99 ∧ (j < K 7 → 1 ≤ K (48 + 2 * j + 0) ∧ 1 ≤ K (48 + 2 * j + 1)))
/-- the plan at p is n, g -/
def zPR (S : zS) (m : zMm) (p n : Int) (g : zGo) : Prop := zPlan S p ∧ m p 305 = n ∧ ∀ k, 0 ≤ k → k < n → m (p + 1) k = g k 0 ∧ m (p + 2) k = g k 1 ∧ m (p + 3) k = g k 2 ∧ m (p + 4) k = g k 3 ∧ m (p + 5) k = g k 4
/-- the kitchen at x is K -/
def zKR (S : zS) (m : zMm) (x : Int) (K : Int → Int) : Prop := zKit S x ∧ (m x 211 = K 0 ∧ m x 212 = K 1 ∧ m x 213 = K 2 ∧ m x 214 = K 3 ∧ m x 215 = K 4 ∧ m x 208 = K 5 ∧ m x 209 = K 6 ∧ m x 210 = K 7) ∧
  (∀ s, 0 ≤ s → s < 8 → m (x + 3) (2 * s) = K (8 + 3 * s + 0) ∧ m (x + 3) (2 * s + 1) = K (8 + 3 * s + 1) ∧ m (x + 8) s = K (8 + 3 * s + 2)) ∧
  (∀ j, 0 ≤ j → j < 8 → m (x + 4) j = K (32 + 2 * j + 0) ∧ m (x + 5) j = K (32 + 2 * j + 1)) ∧ (∀ j, 0 ≤ j → j < 5 → m (x + 6) j = K (48 + 2 * j + 0) ∧ m (x + 7) j = K (48 + 2 * j + 1))
/-- the model's row: goes; the kitchen -/
def zMG (m : zMm) (b n : Int) (g : zGo) : Prop := m (b + 2) 58 = n ∧ ∀ k w, 0 ≤ k → k < n → 0 ≤ w → w < 5 → m (b + 2) (59 + 5 * k + w) = g k w
def zMK (m : zMm) (b : Int) (K : Int → Int) : Prop := ∀ i, 0 ≤ i → i < 58 → m (b + 2) i = K i
theorem zPR.pl {S : zS} {m : zMm} {p n : Int} {g : zGo} (h : zPR S m p n g) (hv : zGV n g) : zPl m p := by
  obtain ⟨h1, h2, h3⟩ := h
  obtain ⟨v0, v1, v2⟩ := hv
  refine ⟨by omega, by omega, fun k k0 k1 => ?_⟩
  have := h3 k k0 (by omega)
  have := v2 k k0 (by omega)
  omega
theorem zKR.ki {S : zS} {m : zMm} {x : Int} {K : Int → Int} (h : zKR S m x K) (hv : zKV K) : zKi m x := by
  obtain ⟨h0, h1, h2, h3, h4⟩ := h
  obtain ⟨v0, v1, v2, v3⟩ := hv
  unfold zKi
  refine ⟨by omega, by omega, by omega, by omega, by omega, by omega, by omega, by omega, by omega, by omega, by omega, by omega, by omega, by omega, by omega, fun j j0 j1 => ?_, fun j j0 j1 => ?_, fun j j0 j1 => ?_⟩
  · have a := h2 (j / 2) (by omega) (by omega)
    have b := v1 (j / 2) (by omega) (by omega)
    rcases Int.emod_two_eq j with q | q
    · rw [show j = 2 * (j / 2) by omega]
      omega
    · rw [show j = 2 * (j / 2) + 1 by omega]
      omega
  · have a := h3 j (by omega) (by omega)
    have b := v2 j (by omega) (by omega)
    omega
  · have a := h4 j (by omega) (by omega)
    have b := v3 j (by omega) (by omega)
    omega
theorem zrow {m : zMm} {b n : Int} {K : Int → Int} {g : zGo} (hK : zMK m b K) (hG : zMG m b n g) (vK : zKV K) (vG : zGV n g) : zRow m b := by
  obtain ⟨v0, v1, v2, v3⟩ := vK
  have k5 := hK 5 (by omega) (by omega)
  have k6 := hK 6 (by omega) (by omega)
  have k7 := hK 7 (by omega) (by omega)
  have g0 := hG.1
  have gv := vG.1
  have gv1 := vG.2.1
  refine ⟨by omega, by omega, by omega, by omega, by omega, by omega, by omega, by omega, fun s c s0 s1 c0 c1 => ?_, fun k k0 k1 => ?_⟩
  · have a := hK (8 + 3 * s + c) (by omega) (by omega)
    have e := v1 s (by omega) (by omega)
    have hc : c = 0 ∨ c = 1 := by omega
    rcases hc with rfl | rfl <;> omega
  · have e := vG.2.2 k (by omega) (by omega)
    have a0 := hG.2 k 0 (by omega) (by omega) (by omega) (by omega)
    have a1 := hG.2 k 1 (by omega) (by omega) (by omega) (by omega)
    have a2 := hG.2 k 2 (by omega) (by omega) (by omega) (by omega)
    have a3 := hG.2 k 3 (by omega) (by omega) (by omega) (by omega)
    have a4 := hG.2 k 4 (by omega) (by omega) (by omega) (by omega)
    omega
/-! what is asked of goes -/
def ahad (g : zGo) (s c : Int) : Int → Int := zs (fun k => if g k 0 = s ∧ g k 1 = c then g k 4 else 0)
def aends (g : zGo) : Int → Int := zmx (fun k => g k 2 + g k 4)
def agoes (g : zGo) (s : Int) : Int → Int := zs (fun k => if g k 0 = s then 1 else 0)
def aendS (g : zGo) (s : Int) : Int → Int := zmx (fun k => if g k 0 = s then g k 2 + g k 4 else 0)
theorem ahad_b {n : Int} {g : zGo} {s c k : Int} (h : zGV n g) (hk0 : 0 ≤ k) (hk : k ≤ n) : 0 ≤ ahad g s c k ∧ ahad g s c k ≤ k * 400 := zs_b hk0 (fun j a b => by have := h.2.2 j a (by omega); split <;> omega)
theorem aends_b {n : Int} {g : zGo} {k : Int} (h : zGV n g) (hk : k ≤ n) : 0 ≤ aends g k ∧ aends g k ≤ 1300 := zmx_b (by omega) (fun j a b => by have := h.2.2 j a (by omega); omega)
theorem agoes_b {g : zGo} {s k : Int} (hk : 0 ≤ k) : 0 ≤ agoes g s k ∧ agoes g s k ≤ k * 1 := zs_b hk (fun j a b => by split <;> omega)
theorem aendS_b {n : Int} {g : zGo} {s k : Int} (h : zGV n g) (hk : k ≤ n) : 0 ≤ aendS g s k ∧ aendS g s k ≤ 1300 := zmx_b (by omega) (fun j a b => by have := h.2.2 j a (by omega); split <;> omega)
theorem zhad_a {S : zS} {m : zMm} {p n : Int} {g : zGo} {s c k : Int} (h : zPR S m p n g) (hk : k ≤ n) : zhad m p s c k = ahad g s c k := zs_c (fun j a b => by
  obtain ⟨q0, q1, q2, q3, q4⟩ := h.2.2 j a (by omega)
  rw [q0, q1, q4])
theorem zends_a {S : zS} {m : zMm} {p n : Int} {g : zGo} {k : Int} (h : zPR S m p n g) (hk : k ≤ n) : zends m p k = aends g k := zmx_c (fun j a b => by
  obtain ⟨q0, q1, q2, q3, q4⟩ := h.2.2 j a (by omega)
  rw [q2, q4])
theorem zgoes_a {S : zS} {m : zMm} {p n : Int} {g : zGo} {s k : Int} (h : zPR S m p n g) (hk : k ≤ n) : zgoes m p s k = agoes g s k := zs_c (fun j a b => by
  obtain ⟨q0, q1, q2, q3, q4⟩ := h.2.2 j a (by omega)
  rw [q0])
theorem zendS_a {S : zS} {m : zMm} {p n : Int} {g : zGo} {s k : Int} (h : zPR S m p n g) (hk : k ≤ n) : zendS m p s k = aendS g s k := zmx_c (fun j a b => by
  obtain ⟨q0, q1, q2, q3, q4⟩ := h.2.2 j a (by omega)
  rw [q0, q2, q4])
theorem yhad_a {m : zMm} {b n : Int} {g : zGo} {s c k : Int} (h : zMG m b n g) (hk : k ≤ n) : yhad m b s c k = ahad g s c k := zs_c (fun j a q => by
  rw [h.2 j 0 a (by omega) (by omega) (by omega), h.2 j 1 a (by omega) (by omega) (by omega), h.2 j 4 a (by omega) (by omega) (by omega)])
theorem yends_a {m : zMm} {b n : Int} {g : zGo} {k : Int} (h : zMG m b n g) (hk : k ≤ n) : yends m b k = aends g k := zmx_c (fun j a q => by
  rw [h.2 j 2 a (by omega) (by omega) (by omega), h.2 j 4 a (by omega) (by omega) (by omega)])
/-- why the k-th go is wrong when it starts at t -/
def aW1 (g : zGo) (k t i : Int) : Prop := g i 3 = g k 3 ∧ g i 2 < t + g k 4 ∧ t < g i 2 + g i 4
def aW2 (g : zGo) (k t i : Int) : Prop := g i 0 = g k 0 ∧ g i 2 < t + g k 4 ∧ t < g i 2 + g i 4
def aW5 (K : Int → Int) (g : zGo) (k t i : Int) : Prop := g i 0 = g k 0 ∧ g i 1 ≠ g k 1 ∧ g i 2 - (t + g k 4) < K 1 ∧ t - (g i 2 + g i 4) < K 1
noncomputable def aWhy (K : Int → Int) (g : zGo) (k t : Int) : Int :=
  zite (∃ i, 0 ≤ i ∧ i < k ∧ aW1 g k t i) 1 (zite (∃ i, 0 ≤ i ∧ i < k ∧ aW2 g k t i) 2 (zite (K (8 + 3 * g k 0 + g k 1) < ahad g (g k 0) (g k 1) k + g k 4) 3
    (zite (K (8 + 3 * g k 0 + 2) = 1 ∧ 0 < ahad g (g k 0) (g k 1) k) 4 (zite (∃ i, 0 ≤ i ∧ i < k ∧ aW5 K g k t i) 5 0))))
/-! counting -/
noncomputable def acnt (P : Int → Prop) : Int → Int := zs (fun j => zq (P j))
theorem acnt_0 (P : Int → Prop) : acnt P 0 = 0 := rfl
theorem acnt_s {P : Int → Prop} {k : Int} (h : 0 ≤ k) : (P k ∧ acnt P (k + 1) = acnt P k + 1) ∨ (¬ P k ∧ acnt P (k + 1) = acnt P k) := by
  unfold acnt
  rw [zs_s h]
  by_cases q : P k
  · exact Or.inl ⟨q, by rw [zq_t q]⟩
  · exact Or.inr ⟨q, by rw [zq_f q]; omega⟩
theorem acnt_b {P : Int → Prop} {k : Int} (h : 0 ≤ k) : 0 ≤ acnt P k ∧ acnt P k ≤ k * 1 := zs_b h (fun j a b => by rcases zq_01 (P j) with q | q <;> omega)
theorem acnt_p {P : Int → Prop} {k : Int} (h : 0 ≤ k) : 0 < acnt P k ↔ ∃ j, 0 ≤ j ∧ j < k ∧ P j := by
  obtain ⟨n, rfl⟩ := Int.eq_ofNat_of_zero_le h
  induction n with
  | zero =>
    rw [show ((0 : Nat) : Int) = 0 from rfl, acnt_0]
    exact ⟨fun q => by omega, fun ⟨j, a, b, _⟩ => by omega⟩
  | succ n ih =>
    rw [show ((n + 1 : Nat) : Int) = (n : Int) + 1 by omega]
    have hb := acnt_b (P := P) (k := n) (by omega)
    have ih := ih (by omega)
    rcases acnt_s (P := P) (k := n) (by omega) with ⟨p, e⟩ | ⟨p, e⟩
    · exact ⟨fun _ => ⟨n, by omega, by omega, p⟩, fun _ => by omega⟩
    · rw [e, ih]
      constructor
      · rintro ⟨j, a, b, c⟩
        exact ⟨j, a, by omega, c⟩
      · rintro ⟨j, a, b, c⟩
        by_cases q : j = n
        · rw [q] at c
          exact absurd c p
        · exact ⟨j, a, by omega, c⟩
theorem acnt_c {P R : Int → Prop} {k : Int} (h : ∀ j, 0 ≤ j → j < k → (P j ↔ R j)) : acnt P k = acnt R k := zs_c (fun j a b => zq_c (h j a b))
/-- the same by counts -/
theorem aWhy_n {K : Int → Int} {g : zGo} {k t : Int} (hk : 0 ≤ k) : aWhy K g k t = zite (0 < acnt (aW1 g k t) k) 1 (zite (0 < acnt (aW2 g k t) k) 2 (zite (K (8 + 3 * g k 0 + g k 1) < ahad g (g k 0) (g k 1) k + g k 4) 3
    (zite (K (8 + 3 * g k 0 + 2) = 1 ∧ 0 < ahad g (g k 0) (g k 1) k) 4 (zite (0 < acnt (aW5 K g k t) k) 5 0)))) := by
  unfold aWhy
  rw [propext (acnt_p (P := aW1 g k t) hk), propext (acnt_p (P := aW2 g k t) hk), propext (acnt_p (P := aW5 K g k t) hk)]
theorem ahad_s {g : zGo} {s c k : Int} (h : 0 ≤ k) : (g k 0 = s ∧ g k 1 = c ∧ ahad g s c (k + 1) = ahad g s c k + g k 4) ∨ (¬ (g k 0 = s ∧ g k 1 = c) ∧ ahad g s c (k + 1) = ahad g s c k) := by
  unfold ahad
  rw [zs_s h]
  by_cases q : g k 0 = s ∧ g k 1 = c
  · exact Or.inl ⟨q.1, q.2, by rw [if_pos q]⟩
  · exact Or.inr ⟨q, by rw [if_neg q]; omega⟩
theorem aW1_i {g : zGo} {k t i : Int} : aW1 g k t i ↔ g i 3 = g k 3 ∧ g i 2 < t + g k 4 ∧ t < g i 2 + g i 4 := Iff.rfl
theorem aW2_i {g : zGo} {k t i : Int} : aW2 g k t i ↔ g i 0 = g k 0 ∧ g i 2 < t + g k 4 ∧ t < g i 2 + g i 4 := Iff.rfl
theorem aW5_i {K : Int → Int} {g : zGo} {k t i : Int} : aW5 K g k t i ↔ g i 0 = g k 0 ∧ g i 1 ≠ g k 1 ∧ g i 2 - (t + g k 4) < K 1 ∧ t - (g i 2 + g i 4) < K 1 := Iff.rfl
theorem acnt_z {P : Int → Prop} {k : Int} (h : 0 ≤ k) (h0 : acnt P k = 0) (hp : ¬ P k) : acnt P (k + 1) = 0 := by
  rcases acnt_s (P := P) h with ⟨p, _⟩ | ⟨_, e⟩
  · exact absurd p hp
  · omega
theorem ahad_t {g : zGo} {s c k : Int} (h : 0 ≤ k) (h0 : g k 0 = s) (h1 : g k 1 = c) : ahad g s c (k + 1) = ahad g s c k + g k 4 := by
  rcases ahad_s (g := g) (s := s) (c := c) h with ⟨_, _, e⟩ | ⟨q, _⟩
  · exact e
  · exact absurd ⟨h0, h1⟩ q
theorem ahad_f {g : zGo} {s c k : Int} (h : 0 ≤ k) (h0 : ¬ (g k 0 = s ∧ g k 1 = c)) : ahad g s c (k + 1) = ahad g s c k := by
  rcases ahad_s (g := g) (s := s) (c := c) h with ⟨p, q, _⟩ | ⟨_, e⟩
  · exact absurd ⟨p, q⟩ h0
  · exact e
/-- what the model's l says behind i goes -/
def aWI (K : Int → Int) (g : zGo) (k t i l : Int) : Prop := (l = 2 ∧ 0 < acnt (aW2 g k t) i) ∨ (acnt (aW2 g k t) i = 0 ∧ l = 4 ∧ K (8 + 3 * g k 0 + 2) = 1 ∧ 0 < ahad g (g k 0) (g k 1) i) ∨
  (acnt (aW2 g k t) i = 0 ∧ l = 5 ∧ 0 < acnt (aW5 K g k t) i ∧ ¬ (K (8 + 3 * g k 0 + 2) = 1 ∧ 0 < ahad g (g k 0) (g k 1) i)) ∨ (acnt (aW2 g k t) i = 0 ∧ l = 9 ∧ acnt (aW5 K g k t) i = 0 ∧ ¬ (K (8 + 3 * g k 0 + 2) = 1 ∧ 0 < ahad g (g k 0) (g k 1) i))
theorem aWI_0 {K : Int → Int} {g : zGo} {k t : Int} : aWI K g k t 0 9 := Or.inr (Or.inr (Or.inr ⟨rfl, rfl, rfl, fun q => by have h := q.2; rw [show ahad g (g k 0) (g k 1) 0 = 0 from rfl] at h; omega⟩))
theorem aWI_a {K : Int → Int} {g : zGo} {k t i l : Int} (hi : 0 ≤ i) (h : aWI K g k t i l) (hs : g i 0 ≠ g k 0) : aWI K g k t (i + 1) l := by
  have s2 : acnt (aW2 g k t) (i + 1) = acnt (aW2 g k t) i := by
    rcases acnt_s (P := aW2 g k t) hi with ⟨p, _⟩ | ⟨_, e⟩
    · exact absurd p.1 hs
    · exact e
  have s5 : acnt (aW5 K g k t) (i + 1) = acnt (aW5 K g k t) i := by
    rcases acnt_s (P := aW5 K g k t) hi with ⟨p, _⟩ | ⟨_, e⟩
    · exact absurd p.1 hs
    · exact e
  unfold aWI at h ⊢
  rw [s2, s5, ahad_f hi (fun q => hs q.1)]
  exact h
theorem aWI_b {K : Int → Int} {g : zGo} {k t i l : Int} (hi : 0 ≤ i) (hs : g i 0 = g k 0) (ho : g i 2 < t + g k 4 ∧ t < g i 2 + g i 4) (hl : l = 2) : aWI K g k t (i + 1) l := by
  have hb := acnt_b (P := aW2 g k t) hi
  rcases acnt_s (P := aW2 g k t) hi with ⟨_, e⟩ | ⟨p, _⟩
  · exact Or.inl ⟨hl, by omega⟩
  · exact absurd ⟨hs, ho⟩ p
theorem aWI_c {K : Int → Int} {g : zGo} {k t i l l' : Int} (hi : 0 ≤ i) (h : aWI K g k t i l) (hs : g i 0 = g k 0) (ho : ¬ (g i 2 < t + g k 4 ∧ t < g i 2 + g i 4)) (hd : g i 1 = g k 1) (hn : 1 ≤ g i 4) (hb : 0 ≤ ahad g (g k 0) (g k 1) i)
    (hl : (K (8 + 3 * g k 0 + 2) = 1 ∧ 4 < l ∧ l' = 4) ∨ (K (8 + 3 * g k 0 + 2) = 1 ∧ l ≤ 4 ∧ l' = l) ∨ (K (8 + 3 * g k 0 + 2) ≠ 1 ∧ l' = l)) : aWI K g k t (i + 1) l' := by
  have s2 : acnt (aW2 g k t) (i + 1) = acnt (aW2 g k t) i := by
    rcases acnt_s (P := aW2 g k t) hi with ⟨p, _⟩ | ⟨_, e⟩
    · exact absurd p.2 ho
    · exact e
  have s5 : acnt (aW5 K g k t) (i + 1) = acnt (aW5 K g k t) i := by
    rcases acnt_s (P := aW5 K g k t) hi with ⟨p, _⟩ | ⟨_, e⟩
    · exact absurd hd p.2.1
    · exact e
  have sh := ahad_t hi hs hd
  unfold aWI at h ⊢
  rw [s2, s5, sh]
  omega
theorem aWI_d {K : Int → Int} {g : zGo} {k t i l l' : Int} (hi : 0 ≤ i) (h : aWI K g k t i l) (hs : g i 0 = g k 0) (ho : ¬ (g i 2 < t + g k 4 ∧ t < g i 2 + g i 4)) (hd : g i 1 ≠ g k 1)
    (hl : ((g i 2 - (t + g k 4) < K 1 ∧ t - (g i 2 + g i 4) < K 1) ∧ ((5 < l ∧ l' = 5) ∨ (l ≤ 5 ∧ l' = l))) ∨ (¬ (g i 2 - (t + g k 4) < K 1 ∧ t - (g i 2 + g i 4) < K 1) ∧ l' = l)) : aWI K g k t (i + 1) l' := by
  have s2 : acnt (aW2 g k t) (i + 1) = acnt (aW2 g k t) i := by
    rcases acnt_s (P := aW2 g k t) hi with ⟨p, _⟩ | ⟨_, e⟩
    · exact absurd p.2 ho
    · exact e
  have hb := acnt_b (P := aW5 K g k t) hi
  have sh := ahad_f (c := g k 1) (s := g k 0) hi (fun q => hd q.2)
  unfold aWI at h ⊢
  rw [s2, sh]
  rcases acnt_s (P := aW5 K g k t) hi with ⟨p, e⟩ | ⟨p, e⟩
  · rw [aW5_i] at p
    rw [e]
    omega
  · rw [aW5_i] at p
    rw [e]
    omega
theorem aWhy_l {K : Int → Int} {g : zGo} {k t l : Int} (hk : 0 ≤ k) (h1 : acnt (aW1 g k t) k = 0) (h : aWI K g k t k l) : aWhy K g k t = if K (8 + 3 * g k 0 + g k 1) < ahad g (g k 0) (g k 1) k + g k 4 ∧ 3 < l then 3 else if l = 9 then 0 else l := by
  rw [aWhy_n hk, zite_f (by omega)]
  unfold aWI at h
  by_cases h3 : K (8 + 3 * g k 0 + g k 1) < ahad g (g k 0) (g k 1) k + g k 4
  · rcases h with h | h | h | h
    · rw [zite_t h.2, if_neg (by omega), if_neg (by omega), h.1]
    all_goals rw [zite_f (by omega), zite_t h3, if_pos ⟨h3, by omega⟩]
  · rw [if_neg (fun q => h3 q.1)]
    rcases h with h | h | h | h
    · rw [zite_t h.2, if_neg (by omega), h.1]
    · rw [zite_f (by omega), zite_f h3, zite_t h.2.2, if_neg (by omega), h.2.1]
    · rw [zite_f (by omega), zite_f h3, zite_f h.2.2.2, zite_t h.2.2.1, if_neg (by omega), h.2.1]
    · rw [zite_f (by omega), zite_f h3, zite_f h.2.2.2, zite_f (by omega), if_pos h.2.1]
theorem aWI_r {K : Int → Int} {g : zGo} {k t i l : Int} (h : aWI K g k t i l) : 2 ≤ l ∧ l ≤ 9 := by
  unfold aWI at h
  omega
