/-! COOKS: the plan, place by place -/
theorem uMny_g {A : zMm} {k i w : Int} (w0 : 0 ≤ w) (w1 : w < 5) : aGo (uMny A k 2) 58 i w = if i = k ∧ w = 4 then aGo (A 2) 58 k 4 + 1 else aGo (A 2) 58 i w := by
  unfold aGo uMny zup
  by_cases e : i = k ∧ w = 4
  · rw [if_pos ⟨rfl, by omega⟩, if_pos e]
    rfl
  · rw [if_neg (by omega), if_neg e]
theorem uMny_n {A : zMm} {k : Int} (h : 0 ≤ k) : uMny A k 2 58 = A 2 58 := zup_ne (by omega)
theorem uMny_v {A : zMm} {k : Int} (h : zGV (A 2 58) (aGo (A 2) 58)) (k0 : 0 ≤ k) (k1 : k < A 2 58) (hv : aGo (A 2) 58 k 4 < 400) : zGV (uMny A k 2 58) (aGo (uMny A k 2) 58) := by
  rw [uMny_n k0]
  refine ⟨h.1, h.2.1, fun i i0 i1 => ?_⟩
  have q := h.2.2 i i0 i1
  rw [uMny_g (by omega) (by omega), uMny_g (by omega) (by omega), uMny_g (by omega) (by omega), uMny_g (by omega) (by omega), uMny_g (by omega) (by omega), if_neg (c := i = k ∧ (0 : Int) = 4) (by omega), if_neg (c := i = k ∧ (1 : Int) = 4) (by omega), if_neg (c := i = k ∧ (2 : Int) = 4) (by omega), if_neg (c := i = k ∧ (3 : Int) = 4) (by omega)]
  by_cases e : i = k
  · subst e
    rw [if_pos ⟨rfl, rfl⟩]
    omega
  · rw [if_neg (fun z => e z.1)]
    exact q
theorem aPl.mny {A B : zMm} {k : Int} (h : aPl A B) (k0 : 0 ≤ k) (k1 : k < 400) : aPl A (uMny B k) := fun o j q => by
  unfold uMny
  rw [zup_ne (by omega)]
  exact h o j q
theorem rel.mny {S : zS} {m : zMm} {x k : Int} {A : zMm} (h : rel S m x A) (hb : A 0 1023 = 1) (k0 : 0 ≤ k) (k1 : k < A 2 58) (hv : aGo (A 2) 58 k 4 < 400) : rel S (zup m (x + 14 + 5) k (aGo (A 2) 58 k 4 + 1)) x (uMny A k) := by
  have hp := h.pl
  have hvv := h.vpl
  have v1 := hvv.2.1
  refine h.plan hb (fun a j ha => zup_ne (by omega)) (fun o j q => ?_) (uMny_v hvv k0 k1 hv) ?_
  · unfold uMny
    exact zup_ne (by omega)
  · rw [uMny_n k0]
    refine ⟨hp.1, by rw [zup_ne (by omega)]; exact hp.2.1, fun i i0 i1 => ?_⟩
    have q := hp.2.2 i i0 i1
    rw [uMny_g (by omega) (by omega), uMny_g (by omega) (by omega), uMny_g (by omega) (by omega), uMny_g (by omega) (by omega), uMny_g (by omega) (by omega), if_neg (c := i = k ∧ (0 : Int) = 4) (by omega), if_neg (c := i = k ∧ (1 : Int) = 4) (by omega), if_neg (c := i = k ∧ (2 : Int) = 4) (by omega), if_neg (c := i = k ∧ (3 : Int) = 4) (by omega),
      zup_ne (by omega), zup_ne (by omega), zup_ne (by omega), zup_ne (by omega)]
    refine ⟨q.1, q.2.1, q.2.2.1, q.2.2.2.1, ?_⟩
    by_cases e : i = k
    · rw [e, zup_at, if_pos ⟨rfl, rfl⟩]
    · rw [zup_ne (fun z => e z.2), if_neg (fun z => e z.1)]
      exact q.2.2.2.2
theorem gSl.mny {ns : Int} {A : zMm} {k : Int} (h : gSl ns (A 2 58) (aGo (A 2) 58)) (k0 : 0 ≤ k) : gSl ns (uMny A k 2 58) (aGo (uMny A k 2) 58) := fun i i0 i1 => by
  rw [uMny_n k0] at i1
  rw [uMny_g (by omega) (by omega), if_neg (by omega)]
  exact h i i0 i1
/-- is a place used, when k of them are done -/
def cAc (N W : Int → Int) (k p : Int) : Prop := if p < k then N p ≠ -1 else W p ≠ -1
def cPv (K N W : Int → Int) (m k : Int) (t : kSt) : Prop :=
  zGV (t.1 2 58) (aGo (t.1 2) 58) ∧ gSl (K 5) (t.1 2 58) (aGo (t.1 2) 58) ∧ (∀ i, 0 ≤ i → i < t.1 2 58 → aGo (t.1 2) 58 i 4 ≤ m + 1) ∧
  (∀ p, 0 ≤ p → p < K 0 → cAc N W k p → 0 ≤ t.2.2.2.2 p ∧ t.2.2.2.2 p < t.1 2 58 ∧ (k ≤ p → aGo (t.1 2) 58 (t.2.2.2.2 p) 4 ≤ m)) ∧
  (∀ p q, 0 ≤ p → p < K 0 → 0 ≤ q → q < K 0 → p ≠ q → cAc N W k p → cAc N W k q → t.2.2.2.2 p ≠ t.2.2.2.2 q) ∧
  t.1 2 58 + zs t.2.1 (2 * K 5) ≤ 320
theorem cPv.st {K N W : Int → Int} {m k : Int} {t : kSt} (h : cPv K N W m k t) (hk : zKV K) (k0 : 0 ≤ k) (k1 : k < K 0) (m0 : 0 ≤ m) (m1 : m ≤ 392) (hW : t.2.2.2.1 k = W k)
    (hN : N k = -1 ∨ (0 ≤ N k ∧ N k < 2 * K 5 ∧ 0 < t.2.1 (N k))) (hz : 0 ≤ zs t.2.1 (2 * K 5)) : cPv K N W m (k + 1) (cT1 m N k t) := by
  have hk0 := hk.1
  obtain ⟨B, L, O, V, G⟩ := t
  obtain ⟨h1, h2, h3, h4, h5, h6⟩ := h
  simp only at h1 h2 h3 h4 h5 h6 hW hz
  have acx : ∀ p, p ≠ k → (cAc N W (k + 1) p ↔ cAc N W k p) := fun p hp => by
    unfold cAc
    by_cases q : p < k
    · rw [if_pos q, if_pos (by omega)]
    · rw [if_neg q, if_neg (by omega)]
  have ack : cAc N W (k + 1) k ↔ N k ≠ -1 := by unfold cAc; rw [if_pos (by omega)]
  have acw : cAc N W k k ↔ W k ≠ -1 := by unfold cAc; rw [if_neg (by omega)]
  by_cases hn : N k = -1
  · have e : cT1 m N k (B, L, O, V, G) = (B, L, O, fSet V k (N k), G) := by
      unfold cT1
      rw [if_pos hn, if_pos hn, if_pos hn, if_pos (Or.inl hn)]
    rw [e]
    refine ⟨h1, h2, h3, fun p p0 p1 ha => ?_, fun p q p0 p1 q0 q1 hpq ha hb => ?_, h6⟩
    · have hp : p ≠ k := fun z => by rw [z] at ha; exact ack.mp ha hn
      have q := h4 p p0 p1 ((acx p hp).mp ha)
      exact ⟨q.1, q.2.1, fun z => q.2.2 (by omega)⟩
    · have hp : p ≠ k := fun z => by rw [z] at ha; exact ack.mp ha hn
      have hq : q ≠ k := fun z => by rw [z] at hb; exact ack.mp hb hn
      exact h5 p q p0 p1 q0 q1 hpq ((acx p hp).mp ha) ((acx q hq).mp hb)
  · obtain ⟨n0, n1, n2⟩ : 0 ≤ N k ∧ N k < 2 * K 5 ∧ 0 < L (N k) := by rcases hN with z | z; exact absurd z hn; exact z
    have hzz : zs (fSet L (N k) (L (N k) - 1)) (2 * K 5) = zs L (2 * K 5) - 1 := by
      have q := zs_upd (f := L) (g := fSet L (N k) (L (N k) - 1)) (i := N k) (d := 1) n0 (fun j hj => fSet_ne hj) fSet_at (2 * K 5).toNat (by omega)
      rw [show (((2 * K 5).toNat : Nat) : Int) = 2 * K 5 by omega] at q
      exact q
    have g0 := h1.1
    by_cases hs : N k = V k
    · have e : cT1 m N k (B, L, O, V, G) = (uMny B (G k), fSet L (N k) (L (N k) - 1), fSet O (N k) (m + 1), fSet V k (N k), G) := by
        unfold cT1
        rw [if_neg hn, if_neg hn, if_neg hn, if_pos hs, if_pos (Or.inr hs)]
      have hw : cAc N W k k := acw.mpr (by rw [← hW, ← hs]; exact hn)
      have gk := h4 k k0 k1 hw
      have gm := gk.2.2 (Int.le_refl _)
      rw [e]
      refine ⟨uMny_v h1 gk.1 gk.2.1 (by omega), h2.mny gk.1, fun i i0 i1 => ?_, fun p p0 p1 ha => ?_, fun p q p0 p1 q0 q1 hpq ha hb => ?_, ?_⟩
      · simp only at i1 ⊢
        rw [uMny_n gk.1] at i1
        rw [uMny_g (by omega) (by omega)]
        by_cases z : i = G k
        · rw [if_pos ⟨z, rfl⟩]; omega
        · rw [if_neg (fun y => z y.1)]; exact h3 i i0 i1
      · simp only
        rw [uMny_n gk.1]
        by_cases hp : p = k
        · rw [hp]; exact ⟨gk.1, gk.2.1, fun z => by omega⟩
        · have q := h4 p p0 p1 ((acx p hp).mp ha)
          refine ⟨q.1, q.2.1, fun z => ?_⟩
          have hd := h5 p k p0 p1 k0 k1 hp ((acx p hp).mp ha) hw
          rw [uMny_g (by omega) (by omega), if_neg (fun y => hd y.1)]
          exact q.2.2 (by omega)
      · have tr : ∀ r, cAc N W (k + 1) r → cAc N W k r := fun r hr => by
          by_cases z : r = k
          · rw [z]; exact hw
          · exact (acx r z).mp hr
        exact h5 p q p0 p1 q0 q1 hpq (tr p ha) (tr q hb)
      · simp only
        rw [uMny_n gk.1, hzz]
        omega
    · have e : cT1 m N k (B, L, O, V, G) = (uGo B (N k / 2) (N k % 2) m k 1, fSet L (N k) (L (N k) - 1), fSet O (N k) (m + 1), fSet V k (N k), fSet G k (B 2 58)) := by
        unfold cT1
        rw [if_neg hn, if_neg hn, if_neg hn, if_neg hs, if_neg (fun z => z.elim hn hs)]
      have hl1 : 1 ≤ zs L (2 * K 5) ∨ zs L (2 * K 5) ≤ 0 := by omega
      rw [e]
      have gl := uGo_l (A := B) (s := N k / 2) (c := N k % 2) (f := m) (a := k) (n := 1) g0
      refine ⟨h1.go (by omega) (by omega), h2.go g0 (by omega), fun i i0 i1 => ?_, fun p p0 p1 ha => ?_, fun p q p0 p1 q0 q1 hpq ha hb => ?_, ?_⟩
      · simp only at i1 ⊢
        rw [uGo_n] at i1
        by_cases z : i = B 2 58
        · rw [z, gl.2.2.2.2]; omega
        · rw [uGo_g i0 (by omega) (by omega) (by omega)]; exact h3 i i0 (by omega)
      · simp only
        rw [uGo_n]
        by_cases hp : p = k
        · rw [hp, fSet_at]; exact ⟨g0, by omega, fun z => by omega⟩
        · have q := h4 p p0 p1 ((acx p hp).mp ha)
          rw [fSet_ne hp]
          refine ⟨q.1, by omega, fun z => ?_⟩
          rw [uGo_g q.1 q.2.1 (by omega) (by omega)]
          exact q.2.2 (by omega)
      · simp only
        by_cases hp : p = k
        · have hq : q ≠ k := fun z => hpq (by rw [hp, z])
          have y := h4 q q0 q1 ((acx q hq).mp hb)
          rw [hp, fSet_at, fSet_ne hq]
          omega
        · by_cases hq : q = k
          · have y := h4 p p0 p1 ((acx p hp).mp ha)
            rw [hq, fSet_at, fSet_ne hp]
            omega
          · rw [fSet_ne hp, fSet_ne hq]
            exact h5 p q p0 p1 q0 q1 hpq ((acx p hp).mp ha) ((acx q hq).mp hb)
      · simp only
        rw [uGo_n, hzz]
        omega
/-- the next minute begins -/
theorem cPv.nx {K N N' W W' : Int → Int} {m : Int} {t : kSt} (h : cPv K N W m (K 0) t) (hW : ∀ p, 0 ≤ p → p < K 0 → W' p = N p) : cPv K N' W' (m + 1) 0 t := by
  obtain ⟨h1, h2, h3, h4, h5, h6⟩ := h
  have tr : ∀ p, 0 ≤ p → p < K 0 → cAc N' W' 0 p → cAc N W (K 0) p := fun p p0 p1 q => by
    unfold cAc at q ⊢
    rw [if_neg (by omega), hW p p0 p1] at q
    rw [if_pos p1]
    exact q
  refine ⟨h1, h2, fun i i0 i1 => by have := h3 i i0 i1; omega, fun p p0 p1 ha => ?_, fun p q p0 p1 q0 q1 hpq ha hb => h5 p q p0 p1 q0 q1 hpq (tr p p0 p1 ha) (tr q q0 q1 hb), h6⟩
  have q := h4 p p0 p1 (tr p p0 p1 ha)
  exact ⟨q.1, q.2.1, fun _ => h3 _ q.1 q.2.1⟩
theorem cPv.s0 {K N W : Int → Int} {A : zMm} {O G : Int → Int} (hk : zKV K) (hW : ∀ p, 0 ≤ p → p < K 0 → W p = -1) : cPv K N W 0 0 (uNil A, fL0 K, O, W, G) := by
  have hk0 := hk.1
  have hac : ∀ p, 0 ≤ p → p < K 0 → ¬ cAc N W 0 p := fun p p0 p1 q => by
    unfold cAc at q
    rw [if_neg (by omega), hW p p0 p1] at q
    exact q rfl
  refine ⟨zGV.nil, fun k a b => by simp only at b; rw [uNil_n] at b; omega, fun i a b => by simp only at b; rw [uNil_n] at b; omega, fun p p0 p1 q => absurd q (hac p p0 p1), fun p q p0 p1 _ _ _ ha => absurd ha (hac p p0 p1), ?_⟩
  show uNil A 2 58 + zs (fL0 K) (2 * K 5) ≤ 320
  rw [uNil_n, fL0_s (by omega)]
  have := fAll_b hk (k := K 5) (by omega) (by omega)
  omega
/-- ahead of its place a side is as it was -/
theorem cTl_p {K L O N : Int → Int} {m : Int} {t : kSt} (hv : cNv K L O N m) {k : Int} (k0 : 0 ≤ k) (k1 : k < K 0) (hL : t.2.1 = L) (hn : N k ≠ -1) : (cTl m N k.toNat t).2.1 (N k) = L (N k) := by
  have hr : 0 ≤ N k := by rcases hv.1 k k0 k1 with z | z; exact absurd z hn; exact z.1
  have q := (cTl_l (m := m) (t := t) hv.2 k.toNat (by omega) (N k) hr).1
  have hh : ¬ cHas N ((k.toNat : Nat) : Int) (N k) := fun ⟨p, a, b, c⟩ => by
    have := hv.2 p k a (by omega) k0 k1 (by omega) hn (by rw [c])
    omega
  rw [q, zite_f hh, hL]
theorem zs_zero {L : Int → Int} : ∀ k : Nat, (∀ j, 0 ≤ j → j < (k : Int) → 0 ≤ L j) → zs L (k : Int) ≤ 0 → ∀ j, 0 ≤ j → j < (k : Int) → L j = 0 := by
  intro k
  induction k with
  | zero => intro _ _ j a b; omega
  | succ k ih =>
    intro h hz j a b
    rw [show ((k + 1 : Nat) : Int) = (k : Int) + 1 by omega, zs_s (by omega)] at hz
    have hb : 0 ≤ zs L (k : Int) := by
      have q := zs_mono (f := fun _ => 0) (g := L) k (fun j a b => h j a (by omega))
      have e : ∀ n : Nat, zs (fun _ => (0 : Int)) (n : Int) = 0 := by
        intro n
        induction n with
        | zero => rfl
        | succ n ih2 => rw [show ((n + 1 : Nat) : Int) = (n : Int) + 1 by omega, zs_s (by omega), ih2]; rfl
      rw [e k] at q
      exact q
    have hk := h (k : Int) (by omega) (by omega)
    by_cases e : j = (k : Int)
    · rw [e]; omega
    · exact ih (fun j a b => h j a (by omega)) (by omega) j a (by omega)
theorem cRn_0 {K : Int → Int} {r m : Int} {f : Nat} {t : kSt} (h : ∀ j, 0 ≤ j → j < 2 * K 5 → t.2.1 j = 0) : cRn K r f m t = (t.1, m) := by
  cases f with
  | zero => rfl
  | succ f => unfold cRn; rw [if_pos h]
theorem cRn_1 {K : Int → Int} {r m : Int} {f : Nat} {t : kSt} (h : ¬ ∀ j, 0 ≤ j → j < 2 * K 5 → t.2.1 j = 0) : cRn K r (f + 1) m t = cRn K r f (m + 1) (cMn K r m t) := by
  conv => lhs; unfold cRn
  rw [if_neg h]
/-- how many minutes: the plan has no part in it -/
theorem cTl_i {m : Int} {N : Int → Int} {t u : kSt} (h1 : t.2.1 = u.2.1) (h2 : t.2.2.1 = u.2.2.1) (h3 : t.2.2.2.1 = u.2.2.2.1) : ∀ k : Nat, (cTl m N k t).2.1 = (cTl m N k u).2.1 ∧ (cTl m N k t).2.2.1 = (cTl m N k u).2.2.1 ∧ (cTl m N k t).2.2.2.1 = (cTl m N k u).2.2.2.1 := by
  intro k
  induction k with
  | zero => exact ⟨h1, h2, h3⟩
  | succ k ih =>
    obtain ⟨e1, e2, e3⟩ := ih
    show (if N (k : Int) = -1 then (cTl m N k t).2.1 else fSet (cTl m N k t).2.1 (N (k : Int)) ((cTl m N k t).2.1 (N (k : Int)) - 1)) = (if N (k : Int) = -1 then (cTl m N k u).2.1 else fSet (cTl m N k u).2.1 (N (k : Int)) ((cTl m N k u).2.1 (N (k : Int)) - 1)) ∧ (if N (k : Int) = -1 then (cTl m N k t).2.2.1 else fSet (cTl m N k t).2.2.1 (N (k : Int)) (m + 1)) = (if N (k : Int) = -1 then (cTl m N k u).2.2.1 else fSet (cTl m N k u).2.2.1 (N (k : Int)) (m + 1)) ∧ fSet (cTl m N k t).2.2.2.1 (k : Int) (N (k : Int)) = fSet (cTl m N k u).2.2.2.1 (k : Int) (N (k : Int))
    rw [e1, e2, e3]
    exact ⟨rfl, rfl, rfl⟩
theorem cRn_2 {K : Int → Int} {r : Int} : ∀ (f : Nat) (m : Int) (t u : kSt), t.2.1 = u.2.1 → t.2.2.1 = u.2.2.1 → t.2.2.2.1 = u.2.2.2.1 → (cRn K r f m t).2 = (cRn K r f m u).2 := by
  intro f
  induction f with
  | zero => intro m t u _ _ _; rfl
  | succ f ih =>
    intro m t u h1 h2 h3
    by_cases z : ∀ j, 0 ≤ j → j < 2 * K 5 → t.2.1 j = 0
    · rw [cRn_0 z, cRn_0 (by rw [← h1]; exact z)]
    · rw [cRn_1 z, cRn_1 (by rw [← h1]; exact z)]
      have e : cNw K r m t = cNw K r m u := by unfold cNw; rw [h1, h2, h3]
      have q := cTl_i (m := m) (N := cNw K r m t) h1 h2 h3 (K 0).toNat
      refine ih (m + 1) _ _ ?_ ?_ ?_
      · show (cTl m (cNw K r m t) (K 0).toNat t).2.1 = (cTl m (cNw K r m u) (K 0).toNat u).2.1
        rw [← e]; exact q.1
      · show (cTl m (cNw K r m t) (K 0).toNat t).2.2.1 = (cTl m (cNw K r m u) (K 0).toNat u).2.2.1
        rw [← e]; exact q.2.1
      · show (cTl m (cNw K r m t) (K 0).toNat t).2.2.2.1 = (cTl m (cNw K r m u) (K 0).toNat u).2.2.2.1
        rw [← e]; exact q.2.2
/-- which cook is best -/
def cBs (a b c : Int) : Int := if b < a then (if c < b then 2 else 1) else if c < a then 2 else 0
