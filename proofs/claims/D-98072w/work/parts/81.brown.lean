/-! BROWN SIDES -/
def jbm (x : Int) : Int := x.bmod 18446744073709551616
theorem jbm_j (x : Int) : zj (jbm x) := by
  unfold jbm zj
  have h1 := Int.le_bmod (x := x) (m := 18446744073709551616) (by omega)
  have h2 := Int.bmod_lt (x := x) (m := 18446744073709551616) (by omega)
  omega
theorem jbm_64 (x : Int) : Int64.ofInt x = Int64.ofInt (jbm x) := by
  apply Int64.toInt_inj.mp
  rw [Int64.toInt_ofInt, Int64.toInt_ofInt]
  unfold jbm
  show x.bmod 18446744073709551616 = (x.bmod 18446744073709551616).bmod 18446744073709551616
  rw [Int.bmod_bmod]
theorem jbm_0 : jbm 0 = 0 := by decide
section
variable {G : zG} {M : zM} {d pc : Nat} {V st : List Value} {S : zS} {mm : zMm} {k n : Nat} {Q : zQt} {X : zXt}
theorem zT.normJ {x y : Int} (e : Int64.ofInt x = Int64.ofInt y) (kk : zT G M d pc V (zJ y :: st) S mm k n Q X) : zT G M d pc V (zJ x :: st) S mm k n Q X := by
  unfold zJ at kk ⊢
  rw [e]
  exact kk
end
/-- a is a set of sides of g -/
def fSu (a g : Int) : Prop := zand a g = a
theorem fSu_n {a g : Nat} (ha : a < 2147483648) (hg : g < 2147483648) : fSu (a : Int) (g : Int) ↔ a &&& g = a := by
  unfold fSu
  rw [zand_nat ha hg]
  omega
theorem nxor0 {a b : Nat} : a ^^^ b = 0 ↔ a = b := by
  constructor
  · intro h
    refine Nat.eq_of_testBit_eq (fun i => ?_)
    have q : (a ^^^ b).testBit i = false := by rw [h]; exact Nat.zero_testBit i
    rw [Nat.testBit_xor] at q
    cases h1 : a.testBit i <;> cases h2 : b.testBit i <;> rw [h1, h2] at q <;> first | rfl | exact absurd q (by decide)
  · intro h
    rw [h, Nat.xor_self]
/-- facts of sets below 1024 -/
theorem fSu_le {a g : Int} (a0 : 0 ≤ a) (a1 : a < 1024) (g0 : 0 ≤ g) (g1 : g < 1024) (h : fSu a g) : a ≤ g := by
  obtain ⟨a, rfl⟩ := Int.eq_ofNat_of_zero_le a0
  obtain ⟨g, rfl⟩ := Int.eq_ofNat_of_zero_le g0
  have q := (fSu_n (by omega) (by omega)).mp h
  have : a &&& g ≤ g := Nat.and_le_right
  omega
theorem fSu_t {a g : Int} (a0 : 0 ≤ a) (a1 : a < 1024) (g0 : 0 ≤ g) (g1 : g < 1024) : zand a (zxor g (-1)) = 0 ↔ fSu a g := by
  obtain ⟨a, rfl⟩ := Int.eq_ofNat_of_zero_le a0
  obtain ⟨g, rfl⟩ := Int.eq_ofNat_of_zero_le g0
  rw [zandn_nat (by omega) (by omega), fSu_n (by omega) (by omega)]
  constructor
  · intro h
    exact (nxor0.mp (by omega)).symm
  · intro h
    rw [h, Nat.xor_self]
    rfl
/-- the sides that are free -/
theorem fFr {s g : Int} (s0 : 0 ≤ s) (s1 : s < 1024) (g0 : 0 ≤ g) (g1 : g < 1024) : 0 ≤ zand g (zxor s (-1)) ∧ zand g (zxor s (-1)) < 1024 ∧ fSu (zand g (zxor s (-1))) g := by
  obtain ⟨s, rfl⟩ := Int.eq_ofNat_of_zero_le s0
  obtain ⟨g, rfl⟩ := Int.eq_ofNat_of_zero_le g0
  rw [zandn_nat (by omega) (by omega)]
  have hlt : g ^^^ (g &&& s) < 2 ^ 10 := Nat.xor_lt_two_pow (by omega) (Nat.lt_of_le_of_lt Nat.and_le_left (show g < 2 ^ 10 by omega))
  refine ⟨by omega, by omega, (fSu_n (by omega) (by omega)).mpr ?_⟩
  refine Nat.eq_of_testBit_eq (fun i => ?_)
  rw [Nat.testBit_and, Nat.testBit_xor, Nat.testBit_and]
  cases g.testBit i <;> cases s.testBit i <;> rfl
/-- the next set of some of the free ones -/
theorem fNx {o f : Int} (o0 : 0 < o) (o1 : o < 1024) (f0 : 0 ≤ f) (f1 : f < 1024) : 0 ≤ zand (o - 1) f ∧ zand (o - 1) f < o ∧ fSu (zand (o - 1) f) f := by
  obtain ⟨p, hp⟩ := Int.eq_ofNat_of_zero_le (show 0 ≤ o - 1 by omega)
  obtain ⟨f, rfl⟩ := Int.eq_ofNat_of_zero_le f0
  rw [hp, zand_nat (by omega) (by omega)]
  have h1 : p &&& f ≤ p := Nat.and_le_left
  refine ⟨by omega, by omega, (fSu_n (by omega) (by omega)).mpr ?_⟩
  rw [Nat.and_assoc, Nat.and_self]
theorem fSu_tr {a b c : Int} (a0 : 0 ≤ a) (a1 : a < 1024) (b0 : 0 ≤ b) (b1 : b < 1024) (c0 : 0 ≤ c) (c1 : c < 1024) (h : fSu a b) (h2 : fSu b c) : fSu a c := by
  obtain ⟨a, rfl⟩ := Int.eq_ofNat_of_zero_le a0
  obtain ⟨b, rfl⟩ := Int.eq_ofNat_of_zero_le b0
  obtain ⟨c, rfl⟩ := Int.eq_ofNat_of_zero_le c0
  rw [fSu_n (by omega) (by omega)] at h h2 ⊢
  rw [← h, Nat.and_assoc, h2]
/-- two sets together -/
theorem fOr {a b g : Int} (a0 : 0 ≤ a) (a1 : a < 1024) (b0 : 0 ≤ b) (b1 : b < 1024) (g0 : 0 ≤ g) (g1 : g < 1024) (h : fSu a g) (h2 : fSu b g) : 0 ≤ zor a b ∧ zor a b ≤ g ∧ fSu (zor a b) g := by
  obtain ⟨a, rfl⟩ := Int.eq_ofNat_of_zero_le a0
  obtain ⟨b, rfl⟩ := Int.eq_ofNat_of_zero_le b0
  obtain ⟨g, rfl⟩ := Int.eq_ofNat_of_zero_le g0
  rw [fSu_n (by omega) (by omega)] at h h2
  have hlt : a ||| b < 2 ^ 10 := Nat.or_lt_two_pow (by omega) (by omega)
  have e : (a ||| b) &&& g = a ||| b := by rw [Nat.and_or_distrib_right, h, h2]
  rw [zor_nat (by omega) (by omega)]
  have : (a ||| b) &&& g ≤ g := Nat.and_le_right
  exact ⟨by omega, by omega, (fSu_n (by omega) (by omega)).mpr e⟩
theorem fSu_0 {g : Int} (g0 : 0 ≤ g) (g1 : g < 1024) : fSu 0 g := by
  obtain ⟨g, rfl⟩ := Int.eq_ofNat_of_zero_le g0
  exact (fSu_n (a := 0) (by omega) (by omega)).mpr (Nat.zero_and g)
/-- all sets of some more ones, from o down -/
def bCh (p s w f : Int) : Nat → Int → (Int → Int) → Int → Int
  | 0, _, X => X
  | q + 1, o, X => if o = 0 then (if fPc o ≤ p ∧ fPr o then fSet X (zor s o) (jbm (X (zor s o) + w)) else X) else bCh p s w f q (zand (o - 1) f) (if fPc o ≤ p ∧ fPr o then fSet X (zor s o) (jbm (X (zor s o) + w)) else X)
theorem bCh_0 {p s w f o : Int} {q : Nat} {X : Int → Int} (h : o = 0) : bCh p s w f (q + 1) o X = (if fPc o ≤ p ∧ fPr o then fSet X (zor s o) (jbm (X (zor s o) + w)) else X) := by
  conv => lhs; unfold bCh
  rw [if_pos h]
theorem bCh_1 {p s w f o : Int} {q : Nat} {X : Int → Int} (h : o ≠ 0) : bCh p s w f (q + 1) o X = bCh p s w f q (zand (o - 1) f) (if fPc o ≤ p ∧ fPr o then fSet X (zor s o) (jbm (X (zor s o) + w)) else X) := by
  conv => lhs; unfold bCh
  rw [if_neg h]
def bSt (g p : Int) (W : Int → Int) : Nat → Int → Int
  | 0 => fun _ => 0
  | k + 1 => if W (k : Int) = 0 then bSt g p W k else bCh p (k : Int) (W (k : Int)) (zand g (zxor (k : Int) (-1))) 1024 (zand g (zxor (k : Int) (-1))) (bSt g p W k)
def bRw (g p : Int) : Nat → Int → Int
  | 0 => fun j => if j = 0 then 1 else 0
  | i + 1 => bSt g p (bRw g p i) 1024
/-- only sets of sides that are told -/
def bSp (g : Int) (X : Int → Int) : Prop := (∀ t, 0 ≤ t → t < 1024 → X t ≠ 0 → fSu t g) ∧ ∀ t, zj (X t)
theorem bSp.up {g s o w p : Int} {X : Int → Int} (h : bSp g X) (g0 : 0 ≤ g) (g1 : g < 1024) (s0 : 0 ≤ s) (s1 : s < 1024) (o0 : 0 ≤ o) (o1 : o < 1024) (hs : fSu s g) (ho : fSu o g) : bSp g (if fPc o ≤ p ∧ fPr o then fSet X (zor s o) (jbm (X (zor s o) + w)) else X) := by
  split
  · refine ⟨fun t t0 t1 q => ?_, fun t => ?_⟩
    · by_cases e : t = zor s o
      · rw [e]; exact (fOr s0 s1 o0 o1 g0 g1 hs ho).2.2
      · rw [fSet_ne e] at q; exact h.1 t t0 t1 q
    · by_cases e : t = zor s o
      · rw [e, fSet_at]; exact jbm_j _
      · rw [fSet_ne e]; exact h.2 t
  · exact h
theorem bSp.ch {g s f w p : Int} (g0 : 0 ≤ g) (g1 : g < 1024) (s0 : 0 ≤ s) (s1 : s < 1024) (hs : fSu s g) (f0 : 0 ≤ f) (f1 : f < 1024) (hf : fSu f g) : ∀ (q : Nat) (o : Int) (X : Int → Int), 0 ≤ o → o < 1024 → fSu o g → bSp g X → bSp g (bCh p s w f q o X) := by
  intro q
  induction q with
  | zero => intro o X _ _ _ h; exact h
  | succ q ih =>
    intro o X o0 o1 ho h
    by_cases e : o = 0
    · rw [bCh_0 e]; exact h.up g0 g1 s0 s1 o0 o1 hs ho
    · rw [bCh_1 e]
      have n := fNx (o := o) (f := f) (by omega) o1 f0 f1
      exact ih _ _ n.1 (by omega) (fSu_tr n.1 (by omega) f0 f1 g0 g1 n.2.2 hf) (h.up g0 g1 s0 s1 o0 o1 hs ho)
theorem bSp.st {g p : Int} {W : Int → Int} (g0 : 0 ≤ g) (g1 : g < 1024) (hW : bSp g W) : ∀ k : Nat, k ≤ 1024 → bSp g (bSt g p W k) := by
  intro k
  induction k with
  | zero => intro _; exact ⟨fun t _ _ q => absurd rfl q, fun t => zj_0⟩
  | succ k ih =>
    intro hk
    unfold bSt
    split
    · exact ih (by omega)
    · rename_i q
      have hs := hW.1 (k : Int) (by omega) (by omega) q
      have f := fFr (s := (k : Int)) (g := g) (by omega) (by omega) g0 g1
      exact bSp.ch g0 g1 (by omega) (by omega) hs f.1 f.2.1 f.2.2 1024 _ _ f.1 f.2.1 f.2.2 (ih (by omega))
theorem bSp.rw {g p : Int} (g0 : 0 ≤ g) (g1 : g < 1024) : ∀ i : Nat, bSp g (bRw g p i) := by
  intro i
  induction i with
  | zero =>
    refine ⟨fun t _ _ q => ?_, fun t => ?_⟩
    · have e : t = 0 := Classical.byContradiction fun z => q (if_neg z)
      rw [e]
      exact fSu_0 g0 g1
    · show zj (if t = 0 then 1 else 0)
      split <;> (unfold zj; omega)
  | succ i ih => exact bSp.st g0 g1 ih 1024 (Nat.le_refl _)
/-- behind the told set nothing comes -/
theorem bSt_x {g p : Int} {W : Int → Int} (g0 : 0 ≤ g) (g1 : g < 1024) (hW : bSp g W) : ∀ d : Nat, g.toNat + 1 + d ≤ 1024 → bSt g p W (g.toNat + 1 + d) = bSt g p W (g.toNat + 1) := by
  intro d
  induction d with
  | zero => intro _; rfl
  | succ d ih =>
    intro hd
    have e : W ((g.toNat + 1 + d : Nat) : Int) = 0 := Classical.byContradiction fun q => by
      have := fSu_le (by omega) (by omega) g0 g1 (hW.1 ((g.toNat + 1 + d : Nat) : Int) (by omega) (by omega) q)
      omega
    show bSt g p W (g.toNat + 1 + d + 1) = _
    rw [show bSt g p W (g.toNat + 1 + d + 1) = bSt g p W (g.toNat + 1 + d) by
      conv => lhs; unfold bSt
      rw [if_pos e]]
    exact ih (by omega)
/-- the sides that are told -/
def fTd (T : Int → Int) : Int → Int := zfd (fun a s => zor a (T s * 2 ^ (2 * s).toNat)) 0
theorem fTd_b {T : Int → Int} : ∀ k : Nat, (k : Int) ≤ 5 → (∀ s, 0 ≤ s → s < (k : Int) → 0 ≤ T s ∧ T s ≤ 3) → 0 ≤ fTd T (k : Int) ∧ fTd T (k : Int) < 4 ^ k := by
  intro k
  induction k with
  | zero => intro _ _; exact ⟨Int.le_refl _, by show (0 : Int) < 1; decide⟩
  | succ k ih =>
    intro hk hT
    have e := ih (by omega) (fun s a b => hT s a (by omega))
    have t := hT (k : Int) (by omega) (by omega)
    unfold fTd at e ⊢
    rw [show ((k + 1 : Nat) : Int) = (k : Int) + 1 by omega, zfd_s (by omega)]
    obtain ⟨a, ha⟩ := Int.eq_ofNat_of_zero_le e.1
    obtain ⟨c, hc⟩ := Int.eq_ofNat_of_zero_le t.1
    rw [ha] at e ⊢
    rw [hc] at t ⊢
    have hp : (2 : Int) ^ (2 * (k : Int)).toNat = ((4 ^ k : Nat) : Int) := by
      rw [show (2 * (k : Int)).toNat = 2 * k by omega, Int.pow_mul, Int.natCast_pow]
      rfl
    have e4 : (4 : Int) ^ k = ((4 ^ k : Nat) : Int) := by rw [Int.natCast_pow]; rfl
    have e5 : (4 : Int) ^ (k + 1) = ((4 ^ (k + 1) : Nat) : Int) := by rw [Int.natCast_pow]; rfl
    rw [e4] at e
    have h4 : 4 ^ k ≤ 4 ^ 4 := Nat.pow_le_pow_right (by omega) (by omega)
    have hx : c * 4 ^ k ≤ 3 * 4 ^ k := Nat.mul_le_mul_right _ (by omega)
    have hpp : 4 ^ (k + 1) = 4 * 4 ^ k := by rw [Nat.pow_succ, Nat.mul_comm]
    have h2 : 4 ^ (k + 1) = 2 ^ (2 * (k + 1)) := by rw [Nat.pow_mul]
    show 0 ≤ zor (a : Int) ((c : Int) * 2 ^ (2 * (k : Int)).toNat) ∧ zor (a : Int) ((c : Int) * 2 ^ (2 * (k : Int)).toNat) < 4 ^ (k + 1)
    rw [hp, ← Int.natCast_mul, zor_nat (by omega) (by omega), e5]
    have := Nat.or_lt_two_pow (x := a) (y := c * 4 ^ k) (n := 2 * (k + 1)) (by rw [← h2]; omega) (by rw [← h2]; omega)
    rw [← h2] at this
    omega
theorem fTd_i {T : Int → Int} {n : Int} (n0 : 0 ≤ n) (n1 : n ≤ 5) (hT : ∀ s, 0 ≤ s → s < n → 0 ≤ T s ∧ T s ≤ 3) : 0 ≤ fTd T n ∧ fTd T n < 1024 := by
  obtain ⟨k, rfl⟩ := Int.eq_ofNat_of_zero_le n0
  have q := fTd_b k n1 hT
  have h4 : (4 : Int) ^ k ≤ 4 ^ 5 := by
    have e : (4 : Nat) ^ k ≤ 4 ^ 5 := Nat.pow_le_pow_right (by omega) (by omega)
    have z := Int.ofNat_le.mpr e
    rw [Int.natCast_pow, Int.natCast_pow] at z
    exact z
  have e5 : (4 : Int) ^ 5 = 1024 := by decide
  omega
theorem fTd_s {T : Int → Int} {s : Int} (h : 0 ≤ s) : fTd T (s + 1) = zor (fTd T s) (T s * 2 ^ (2 * s).toNat) := zfd_s h
