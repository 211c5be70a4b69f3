/-! ONLY THE PLAN CHANGES -/
def aPl (A B : zMm) : Prop := ∀ o j, ¬ (o = 2 ∧ 58 ≤ j ∧ j < 2059) → B o j = A o j
theorem aPl.rf {A : zMm} : aPl A A := fun _ _ _ => rfl
theorem aPl.tr {A B C : zMm} (h : aPl A B) (h2 : aPl B C) : aPl A C := fun o j q => (h2 o j q).trans (h o j q)
theorem aPl.go {A B : zMm} {s c f a n : Int} (h : aPl A B) (h0 : 0 ≤ B 2 58) (h1 : B 2 58 < 400) : aPl A (uGo B s c f a n) := fun o j q => by
  rw [uGo_o (by omega)]
  exact h o j q
def uNil (A : zMm) : zMm := zup A 2 58 0
theorem uNil_n {A : zMm} : uNil A 2 58 = 0 := zup_at
theorem aPl.nil {A B : zMm} (h : aPl A B) : aPl A (uNil B) := fun o j q => by
  unfold uNil
  rw [zup_ne (by omega)]
  exact h o j q
theorem aPl.bg {A B : zMm} (h : aPl A B) : B 0 1023 = A 0 1023 := h 0 1023 (by omega)
theorem aPl.k {A B : zMm} (h : aPl A B) {j : Int} (h1 : j < 58) : B 2 j = A 2 j := h 2 j (by omega)
theorem aPl.K {A B : zMm} (h : aPl A B) {K : Int → Int} (hK : aK (A 0 1023) (A 2) = K) : ∀ j, 0 ≤ j → j < 58 → K j = aK (B 0 1023) (B 2) j := fun j _ j1 => by
  rw [← hK]
  unfold aK
  rw [h.bg, h.k j1]
theorem uSL_b {A : zMm} (hV : vBg (A 0 1023) (A 2)) : uSnap (uLay A) 0 1023 = 1 := by rw [uSnap_o (by omega)]; exact uLay_bg hV
theorem uSL_K {A : zMm} (hV : vBg (A 0 1023) (A 2)) : aK (uSnap (uLay A) 0 1023) (uSnap (uLay A) 2) = aK (A 0 1023) (A 2) := by
  rw [uSnap_o (by omega), uSnap_r (by omega) (by omega)]
  exact uLay_k hV
theorem rel.nil {S : zS} {m : zMm} {x : Int} {A : zMm} (h : rel S m x A) (hb : A 0 1023 = 1) : rel S (zup m (x + 14) 305 0) x (uNil A) := by
  refine h.plan hb (fun a j ha => zup_ne (by omega)) (fun o j q => zup_ne (by omega)) ?_ ?_
  · rw [uNil_n]
    exact ⟨by omega, by omega, fun k a b => by omega⟩
  · rw [uNil_n]
    exact ⟨h.pl.1, zup_at, fun k a b => by omega⟩
theorem yEw.up {m : zMm} {b o i v : Int} {A : zMm} (h : yEw m b A) : yEw (zup m (b + o) i v) b (zup A o i v) := fun o' j q => by
  by_cases e : o' = o ∧ j = i
  · rw [e.1, e.2, zup_at, zup_at]
  · rw [zup_ne (by omega), zup_ne (by omega)]
    exact h o' j q
theorem yEw.go {m : zMm} {b s c f a n : Int} {A : zMm} (h : yEw m b A) : yEw (ylay m b s c f a n) b (uGo A s c f a n) := by
  unfold ylay uGo
  rw [h 2 58 (zUw.c (by omega) _)]
  exact (((((h.up).up).up).up).up).up
theorem yEw.n {m : zMm} {b : Int} {A : zMm} (h : yEw m b A) : m (b + 2) 58 = A 2 58 := h 2 58 (zUw.c (by omega) _)
theorem yEw.K {m : zMm} {b : Int} {A B : zMm} {K : Int → Int} (h : yEw m b B) (hP : aPl A B) (hb : A 0 1023 = 1) (hK : aK (A 0 1023) (A 2) = K) : zMK m b K := fun i i0 i1 => by
  rw [h 2 i (zUw.c (by omega) _), hP.K hK i i0 i1]
  unfold aK
  rw [hP.bg, hb, if_neg (by omega)]
theorem zIn.go {b s c f a n : Int} {m m2 : zMm} (h : zIn b m m2) : zIn b m (ylay m2 b s c f a n) := fun a ha j => by
  unfold ylay
  rw [zup_ne (by omega), zup_ne (by omega), zup_ne (by omega), zup_ne (by omega), zup_ne (by omega), zup_ne (by omega)]
  exact h a ha j
theorem zOut.go {x s c f a n : Int} {m m2 : zMm} (h : zOut x m m2) : zOut x m (zgo m2 (x + 14) s c f a n) := fun b b0 b1 j => by
  rw [zgo_ne (by omega)]
  exact h b b0 b1 j
theorem ysum_k {m : zMm} {b k : Int} {K : Int → Int} (h : zMK m b K) (hk : k ≤ 8) : ysum m b k = fAll K k := zs_c (fun j a q => by rw [h _ (by omega) (by omega), h _ (by omega) (by omega)])
theorem ylng_k {m : zMm} {b k : Int} {K : Int → Int} (h : zMK m b K) (hk : k ≤ 8) : ylng m b k = fLng K k := zmx_c (fun j a q => by rw [h _ (by omega) (by omega), h _ (by omega) (by omega)])
theorem yEw.row {m : zMm} {b : Int} {A B : zMm} {K : Int → Int} (h : yEw m b B) (hP : aPl A B) (hb : A 0 1023 = 1) (hK : aK (A 0 1023) (A 2) = K) (vK : zKV K) (hv : zGV (B 2 58) (aGo (B 2) 58)) : zRow m b := by
  have hk := h.K hP hb hK
  exact zrow5 (n := B 2 58) (g := aGo (B 2) 58) (fun j j0 j1 => hk j (by omega) j1) ⟨h.n, fun k w k0 k1 w0 w1 => by
    rw [h 2 _ (zUw.c (by omega) _)]
    show B 2 (59 + 5 * k + w) = B 2 (58 + 1 + 5 * k + w)
    congr 1⟩ vK hv
theorem zs_le {f : Int → Int} {k n : Int} (hk : 0 ≤ k) (h : k ≤ n) (hf : ∀ j, 0 ≤ j → j < n → 0 ≤ f j) : zs f k ≤ zs f n := by
  obtain ⟨d, rfl⟩ : ∃ d : Nat, n = k + d := ⟨(n - k).toNat, by omega⟩
  clear h
  induction d with
  | zero => rw [show k + ((0 : Nat) : Int) = k by omega]; exact Int.le_refl _
  | succ d ih =>
    rw [show k + ((d + 1 : Nat) : Int) = k + (d : Int) + 1 by omega, zs_s (by omega)]
    have := ih (fun j a b => hf j a (by omega))
    have := hf (k + (d : Int)) (by omega) (by omega)
    omega
/-- the goes' slices are of the kitchen -/
def gSl (ns n : Int) (g : zGo) : Prop := ∀ k, 0 ≤ k → k < n → g k 0 < ns
theorem gSl.go {ns : Int} {A : zMm} {s c f a n : Int} (h : gSl ns (A 2 58) (aGo (A 2) 58)) (h0 : 0 ≤ A 2 58) (hs : s < ns) : gSl ns (uGo A s c f a n 2 58) (aGo (uGo A s c f a n 2) 58) := fun k k0 k1 => by
  rw [uGo_n] at k1
  by_cases e : k = A 2 58
  · rw [e, (uGo_l h0).1]; exact hs
  · rw [uGo_g k0 (by omega) (by omega) (by omega)]; exact h k k0 (by omega)
/-! several goes -/
def fL0 (K : Int → Int) : Int → Int := fun j => K (8 + 3 * (j / 2) + j % 2)
theorem fL0_s {K : Int → Int} {n : Int} (hn : 0 ≤ n) : zs (fL0 K) (2 * n) = fAll K n := by
  rw [zs_to hn]
  refine zs_c (fun s a b => ?_)
  unfold fL0
  rw [show 2 * s / 2 = s by omega, show 2 * s % 2 = 0 by omega, show (2 * s + 1) / 2 = s by omega, show (2 * s + 1) % 2 = 1 by omega]
theorem fL0_b {K : Int → Int} (h : zKV K) {j : Int} (h0 : 0 ≤ j) (h1 : j < 16) : 0 ≤ fL0 K j ∧ fL0 K j ≤ 20 := by
  have e := h.2.1 (j / 2) (by omega) (by omega)
  unfold fL0
  rcases (by omega : j % 2 = 0 ∨ j % 2 = 1) with q | q <;> rw [q] <;> omega
theorem zKR.min {S : zS} {m : zMm} {p : Int} {K : Int → Int} (h : zKR S m p K) {j : Int} (h0 : 0 ≤ j) (h1 : j < 16) : m (p + 3) j = fL0 K j := by
  obtain ⟨e1, e2, e3⟩ := h.2.2.1 (j / 2) (by omega) (by omega)
  unfold fL0
  rcases (by omega : j % 2 = 0 ∨ j % 2 = 1) with q | q
  · rw [q, ← e1]; congr 1; omega
  · rw [q, ← e2]; congr 1; omega
def svIn (T k : Int) : Nat → zMm → Int → Int → zMm × Int
  | 0, A, a, _ => (A, a)
  | f + 1, A, a, l => if 0 < l then svIn T k f (uGo A (k / 2) (k % 2) (a % T) (a / T) (min l (T - a % T))) (a + min l (T - a % T)) (l - min l (T - a % T)) else (A, a)
def svOut (T : Int) (K : Int → Int) : Nat → Int → zMm → Int → zMm
  | 0, _, A, _ => A
  | f + 1, k, A, a => svOut T K f (k + 1) (svIn T k 20 A a (fL0 K k)).1 (svIn T k 20 A a (fL0 K k)).2
theorem svIn_0 {T k : Int} {f : Nat} {A : zMm} {a l : Int} (h : l ≤ 0) : svIn T k f A a l = (A, a) := by
  cases f with
  | zero => rfl
  | succ f => unfold svIn; rw [if_neg (by omega)]
theorem svIn_1 {T k : Int} {f : Nat} {A : zMm} {a l : Int} (h : 0 < l) : svIn T k (f + 1) A a l = svIn T k f (uGo A (k / 2) (k % 2) (a % T) (a / T) (min l (T - a % T))) (a + min l (T - a % T)) (l - min l (T - a % T)) := by
  conv => lhs; unfold svIn
  rw [if_pos h]
/-- the cut -/
def fCut (K : Int → Int) : Int := max (fLng K (K 5)) ((fAll K (K 5) + K 0 - 1) / K 0)
theorem fCut_b {K : Int → Int} (h : zKV K) (h5 : 0 < K 5) : 1 ≤ fCut K ∧ fCut K ≤ 400 ∧ fAll K (K 5) ≤ fCut K * K 0 := by
  have hk := h.1
  have h1 := fLng_b h (k := K 5) (by omega)
  have h2 := fAll_b h (k := K 5) (by omega) (by omega)
  have h3 : 1 ≤ fLng K (K 5) := by
    have e := h.2.1 (K 5 - 1) (by omega) (by omega)
    have q : fLng K (K 5 - 1 + 1) = max (fLng K (K 5 - 1)) (K (8 + 3 * (K 5 - 1) + 0) + K (8 + 3 * (K 5 - 1) + 1)) := zmx_s (by omega)
    rw [show K 5 - 1 + 1 = K 5 by omega] at q
    omega
  have h4 : (fAll K (K 5) + K 0 - 1) / K 0 ≤ fAll K (K 5) + K 0 - 1 := Int.ediv_le_self _ (by omega)
  have h5 : fAll K (K 5) ≤ (fAll K (K 5) + K 0 - 1) / K 0 * K 0 := by
    have e := Int.mul_ediv_add_emod (fAll K (K 5) + K 0 - 1) (K 0)
    have l := Int.emod_lt_of_pos (fAll K (K 5) + K 0 - 1) (show 0 < K 0 by omega)
    rw [Int.mul_comm] at e
    omega
  have h6 : (fAll K (K 5) + K 0 - 1) / K 0 * K 0 ≤ fCut K * K 0 := Int.mul_le_mul_of_nonneg_right (by unfold fCut; omega) (by omega)
  exact ⟨by unfold fCut; omega, by unfold fCut; omega, by omega⟩
theorem svFct {T p a N : Int} (hT : 1 ≤ T) (hp : N ≤ T * p) (h0 : 0 ≤ a) (h1 : a < N) : 0 ≤ a % T ∧ a % T < T ∧ 0 ≤ a / T ∧ a / T < p :=
  ⟨Int.emod_nonneg _ (by omega), Int.emod_lt_of_pos _ (by omega), Int.ediv_nonneg h0 (by omega), Int.ediv_lt_of_lt_mul (by omega) (by rw [Int.mul_comm]; omega)⟩
