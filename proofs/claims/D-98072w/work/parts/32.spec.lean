/-! WHAT IS ANSWERED, AS PLAIN FUNCTIONS -/
/-- a fold over 0 .. k-1 -/
def zfd (F : Int → Int → Int) (a k : Int) : Int := (List.range k.toNat).foldl (fun s j => F s (j : Nat)) a
theorem zfd_0 (F : Int → Int → Int) (a : Int) : zfd F a 0 = a := rfl
theorem zfd_s {F : Int → Int → Int} {a k : Int} (h : 0 ≤ k) : zfd F a (k + 1) = F (zfd F a k) k := by
  unfold zfd
  rw [show (k + 1).toNat = k.toNat + 1 by omega, List.range_succ, List.foldl_append]
  simp [z_nat h]
/-- the first of 0 .. k-1 that P holds of; none: -1 -/
noncomputable def zfi (P : Int → Prop) (k : Int) : Int := zfd (fun a j => zite (a = -1 ∧ P j) j a) (-1) k
theorem zfi_f {P : Int → Prop} {k : Int} (h : ∀ j, 0 ≤ j → j < k → ¬ P j) : zfi P k = -1 := by
  rcases Int.lt_or_le k 0 with q | q
  · unfold zfi zfd
    rw [show k.toNat = 0 by omega]
    rfl
  · obtain ⟨n, rfl⟩ := Int.eq_ofNat_of_zero_le q
    clear q
    induction n with
    | zero => rfl
    | succ n ih =>
      unfold zfi at ih ⊢
      rw [show ((n + 1 : Nat) : Int) = (n : Int) + 1 by omega, zfd_s (by omega), ih (fun j a b => h j a (by omega)), zite_f (fun q => h n (by omega) (by omega) q.2)]
theorem zfi_t {P : Int → Prop} {k i : Int} (h : ∀ j, 0 ≤ j → j < i → ¬ P j) (h0 : 0 ≤ i) (h1 : i < k) (hi : P i) : zfi P k = i := by
  have key : ∀ n : Nat, zfi P (i + 1 + n) = i := by
    intro n
    induction n with
    | zero =>
      have e := zfi_f h
      unfold zfi at e ⊢
      rw [show i + 1 + ((0 : Nat) : Int) = i + 1 by omega, zfd_s h0, e, zite_t ⟨rfl, hi⟩]
    | succ n ih =>
      unfold zfi at ih ⊢
      rw [show i + 1 + ((n + 1 : Nat) : Int) = i + 1 + n + 1 by omega, zfd_s (by omega), ih, zite_f (fun q => by omega)]
  have e := key (k - i - 1).toNat
  rw [show i + 1 + ((k - i - 1).toNat : Int) = k by omega] at e
  exact e
theorem zor_0 {a : Int} (h : zi a) : zor a 0 = a := by
  unfold zor
  have e : Int32.ofInt a ||| Int32.ofInt 0 = Int32.ofInt a := by
    rw [show Int32.ofInt 0 = 0 from rfl]
    simp
  rw [e]
  exact zi_to h
/-- the slices that are done -/
def fDn (K : Int → Int) (n : Int) (g : zGo) (s : Int) : Prop := K (8 + 3 * s + 0) - ahad g s 0 n ≤ 0 ∧ K (8 + 3 * s + 1) - ahad g s 1 n ≤ 0
noncomputable def fDone (K : Int → Int) (n : Int) (g : zGo) : Int → Int := zfd (fun a s => zite (fDn K n g s) (zor a (1 * 2 ^ s.toNat)) a) 0
noncomputable def fOn (g : zGo) (t : Int) : Int → Int := zfd (fun a k => zite (g k 2 ≤ t ∧ t < g k 2 + g k 4) (zor a (1 * 2 ^ (g k 0).toNat)) a) 0
noncomputable def fIdle (n : Int) (g : zGo) (p : Int) : Int → Int := zs (fun t => 1 - zq (∃ j, 0 ≤ j ∧ j < n ∧ g j 3 = p ∧ g j 2 ≤ t ∧ t < g j 2 + g j 4))
noncomputable def fForg (K : Int → Int) (n : Int) (g : zGo) : Int := zfi (fun i => 0 < K (8 + 3 * (i / 2) + i % 2) - ahad g (i / 2) (i % 2) n) (2 * K 5)
noncomputable def fJud (K : Int → Int) (n : Int) (g : zGo) : Int := zfi (fun k => 0 < aWhy K g k (g k 2)) n
/-- sums over the slices -/
def fAll (K : Int → Int) : Int → Int := zs (fun s => K (8 + 3 * s + 0) + K (8 + 3 * s + 1))
def fTop (K : Int → Int) (c : Int) : Int → Int := zs (fun s => K (8 + 3 * s + c))
def fLng (K : Int → Int) : Int → Int := zmx (fun s => K (8 + 3 * s + 0) + K (8 + 3 * s + 1))
