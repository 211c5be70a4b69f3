/-! COOKS. L: what each side lacks; O: behind which minute it was on last (0: never); W: what a place had last, N: what it has (-1: nothing) -/
def cSd (K L : Int → Int) (s : Int) : Int :=
  if 0 < L (2 * s + 0) ∧ L (2 * s + 0) < fL0 K (2 * s + 0) then 2 * s + 0 else if 0 < L (2 * s + 1) ∧ L (2 * s + 1) < fL0 K (2 * s + 1) then 2 * s + 1 else if 0 < L (2 * s) then 2 * s else 2 * s + 1
theorem cSd_b {K L : Int → Int} {s : Int} : cSd K L s = 2 * s ∨ cSd K L s = 2 * s + 1 := by
  unfold cSd
  repeat' split
  all_goals omega
def cOn (N : Int → Int) (pl s : Int) : Prop := ∃ p, 0 ≤ p ∧ p < pl ∧ N p ≠ -1 ∧ N p / 2 = s
def cOt (j : Int) : Int := if j % 2 = 0 then j + 1 else j - 1
theorem cOt_b {j : Int} (h0 : 0 ≤ j) (h1 : j < 16) : 0 ≤ cOt j ∧ cOt j < 16 ∧ cOt j / 2 = j / 2 ∧ cOt j ≠ j := by
  unfold cOt
  split <;> omega
theorem cOt_x : ∀ j : Fin 16, zxor (j.val : Int) 1 = cOt (j.val : Int) := by decide +kernel
theorem cOt_i {j : Int} (h0 : 0 ≤ j) (h1 : j < 16) : zxor j 1 = cOt j := by
  have q := cOt_x ⟨j.toNat, by omega⟩
  simp only [z_nat h0] at q
  exact q
def cGo (K L O N : Int → Int) (m s : Int) : Prop := ¬ cOn N (K 0) s ∧ L (2 * s) + L (2 * s + 1) ≠ 0 ∧ (O (cOt (cSd K L s)) = 0 ∨ K 1 ≤ m - O (cOt (cSd K L s)))
def cLk (r t u : Int) : Int := if r = 0 then 0 else if r = 1 then t + u else if t = 0 ∨ u = 0 then 1 else 0
noncomputable def cCh (K L O N : Int → Int) (r m : Int) : Int → Int := zfd (fun a s => zite (cGo K L O N m s ∧ (a = -1 ∨ cLk r (L (2 * a)) (L (2 * a + 1)) < cLk r (L (2 * s)) (L (2 * s + 1)))) s a) (-1)
theorem cCh_s {K L O N : Int → Int} {r m s : Int} (h : 0 ≤ s) : cCh K L O N r m (s + 1) = zite (cGo K L O N m s ∧ (cCh K L O N r m s = -1 ∨ cLk r (L (2 * cCh K L O N r m s)) (L (2 * cCh K L O N r m s + 1)) < cLk r (L (2 * s)) (L (2 * s + 1)))) s (cCh K L O N r m s) := zfd_s h
theorem cCh_n {K L O N : Int → Int} {r m : Int} : ∀ n : Nat, (cCh K L O N r m (n : Int) = -1 ∧ ∀ s, 0 ≤ s → s < (n : Int) → ¬ cGo K L O N m s) ∨ (0 ≤ cCh K L O N r m (n : Int) ∧ cCh K L O N r m (n : Int) < (n : Int) ∧ cGo K L O N m (cCh K L O N r m (n : Int))) := by
  intro n
  induction n with
  | zero => exact Or.inl ⟨rfl, fun s a b => by omega⟩
  | succ n ih =>
    rw [show ((n + 1 : Nat) : Int) = (n : Int) + 1 by omega, cCh_s (by omega)]
    by_cases h : cGo K L O N m (n : Int) ∧ (cCh K L O N r m (n : Int) = -1 ∨ cLk r (L (2 * cCh K L O N r m (n : Int))) (L (2 * cCh K L O N r m (n : Int) + 1)) < cLk r (L (2 * (n : Int))) (L (2 * (n : Int) + 1)))
    · rw [zite_t h]
      exact Or.inr ⟨by omega, by omega, h.1⟩
    · rw [zite_f h]
      rcases ih with ⟨e, q⟩ | ⟨a, b, q⟩
      · refine Or.inl ⟨e, fun s s0 s1 z => ?_⟩
        by_cases hs : s = (n : Int)
        · rw [hs] at z; exact h ⟨z, Or.inl e⟩
        · exact q s s0 (by omega) z
      · exact Or.inr ⟨a, by omega, q⟩
theorem cCh_i {K L O N : Int → Int} {r m n : Int} (hn : 0 ≤ n) : (cCh K L O N r m n = -1 ∧ ∀ s, 0 ≤ s → s < n → ¬ cGo K L O N m s) ∨ (0 ≤ cCh K L O N r m n ∧ cCh K L O N r m n < n ∧ cGo K L O N m (cCh K L O N r m n)) := by
  obtain ⟨k, rfl⟩ := Int.eq_ofNat_of_zero_le hn
  exact cCh_n k
/-- a place: one that had the side last, else the first free one -/
noncomputable def cFp (N W : Int → Int) (pl d : Int) : Int := zite (zfi (fun p => N p = -1 ∧ W p = d) pl = -1) (zfi (fun p => N p = -1) pl) (zfi (fun p => N p = -1 ∧ W p = d) pl)
/-- scanned from above: least: the least free one of those seen -/
theorem cFp_m {N W : Int → Int} {pl d p : Int} (h0 : 0 ≤ p) (h1 : p < pl) (hN : N p = -1) (hW : W p = d) (hu : ∀ q, 0 ≤ q → q < pl → W q = d → q = p) : cFp N W pl d = p := by
  unfold cFp
  have e : zfi (fun p => N p = -1 ∧ W p = d) pl = p := zfi_t (fun j j0 j1 q => by have := hu j j0 (by omega) q.2; omega) h0 h1 ⟨hN, hW⟩
  rw [e, zite_f (by omega)]
theorem cFp_l {N W : Int → Int} {pl d l : Int} (hn : 0 ≤ pl) (hm : ∀ p, 0 ≤ p → p < pl → ¬ (N p = -1 ∧ W p = d)) (hl : (l = -1 ∧ ∀ p, 0 ≤ p → p < pl → N p ≠ -1) ∨ (0 ≤ l ∧ l < pl ∧ N l = -1 ∧ ∀ p, 0 ≤ p → p < l → N p ≠ -1)) : cFp N W pl d = l := by
  unfold cFp
  rw [zite_t (zfi_f hm)]
  rcases hl with ⟨e, q⟩ | ⟨a, b, c, q⟩
  · rw [zfi_f (fun j j0 j1 z => q j j0 j1 z), e]
  · exact zfi_t (fun j j0 j1 z => q j j0 j1 z) a b c
/-- what is on in a minute, by and by -/
noncomputable def cFl (K L O W : Int → Int) (r m : Int) : Nat → (Int → Int) → Int → Int
  | 0, N => N
  | f + 1, N => if zfi (fun p => N p = -1) (K 0) = -1 ∨ cCh K L O N r m (K 5) = -1 then N else cFl K L O W r m f (fSet N (cFp N W (K 0) (cSd K L (cCh K L O N r m (K 5)))) (cSd K L (cCh K L O N r m (K 5))))
theorem cFl_0 {K L O W N : Int → Int} {r m : Int} {f : Nat} (h : zfi (fun p => N p = -1) (K 0) = -1 ∨ cCh K L O N r m (K 5) = -1) : cFl K L O W r m f N = N := by
  cases f with
  | zero => rfl
  | succ f => unfold cFl; rw [if_pos h]
theorem cFl_1 {K L O W N : Int → Int} {r m : Int} {f : Nat} (h : zfi (fun p => N p = -1) (K 0) ≠ -1) (h2 : cCh K L O N r m (K 5) ≠ -1) : cFl K L O W r m (f + 1) N = cFl K L O W r m f (fSet N (cFp N W (K 0) (cSd K L (cCh K L O N r m (K 5)))) (cSd K L (cCh K L O N r m (K 5)))) := by
  conv => lhs; unfold cFl
  rw [if_neg (fun q => q.elim h h2)]
def cN0 (K L W : Int → Int) : Int → Int := fun p => if W p ≠ -1 ∧ 0 < L (W p) ∧ 0 < K (8 + 3 * (W p / 2) + 2) then W p else -1
/-- a minute more of a go -/
def uMny (A : zMm) (k : Int) : zMm := zup A 2 (59 + 5 * k + 4) (A 2 (59 + 5 * k + 4) + 1)
abbrev kSt : Type := zMm × (Int → Int) × (Int → Int) × (Int → Int) × (Int → Int)
/-- place p in minute m: the plan, what lacks, when on last, what the place had, its go -/
def cT1 (m : Int) (N : Int → Int) (p : Int) (t : kSt) : kSt :=
  (if N p = -1 then t.1 else if N p = t.2.2.2.1 p then uMny t.1 (t.2.2.2.2 p) else uGo t.1 (N p / 2) (N p % 2) m p 1,
   if N p = -1 then t.2.1 else fSet t.2.1 (N p) (t.2.1 (N p) - 1),
   if N p = -1 then t.2.2.1 else fSet t.2.2.1 (N p) (m + 1),
   fSet t.2.2.2.1 p (N p),
   if N p = -1 ∨ N p = t.2.2.2.1 p then t.2.2.2.2 else fSet t.2.2.2.2 p (t.1 2 58))
def cTl (m : Int) (N : Int → Int) : Nat → kSt → kSt
  | 0, t => t
  | k + 1, t => cT1 m N (k : Int) (cTl m N k t)
noncomputable def cNw (K : Int → Int) (r m : Int) (t : kSt) : Int → Int := cFl K t.2.1 t.2.2.1 t.2.2.2.1 r m (K 0).toNat (cN0 K t.2.1 t.2.2.2.1)
noncomputable def cMn (K : Int → Int) (r m : Int) (t : kSt) : kSt := cTl m (cNw K r m t) (K 0).toNat t
noncomputable def cRn (K : Int → Int) (r : Int) : Nat → Int → kSt → zMm × Int
  | 0, m, t => (t.1, m)
  | f + 1, m, t => @ite _ (∀ j, 0 ≤ j → j < 2 * K 5 → t.2.1 j = 0) (Classical.propDecidable _) (t.1, m) (cRn K r f (m + 1) (cMn K r m t))
theorem cFp_n {N W : Int → Int} {pl d : Int} (hm : ∀ p, 0 ≤ p → p < pl → W p ≠ d) : cFp N W pl d = zfi (fun p => N p = -1) pl := by
  unfold cFp
  rw [zite_t (zfi_f (fun j a b q => hm j a b q.2))]
theorem cFp_b {N W : Int → Int} {pl d : Int} (hn : 0 ≤ pl) (h : zfi (fun p => N p = -1) pl ≠ -1) : 0 ≤ cFp N W pl d ∧ cFp N W pl d < pl ∧ N (cFp N W pl d) = -1 := by
  unfold cFp
  rcases zfi_i (P := fun p => N p = -1 ∧ W p = d) hn with ⟨e, _⟩ | ⟨a, b, c⟩
  · rw [zite_t e]
    rcases zfi_i (P := fun p => N p = -1) hn with ⟨e2, _⟩ | ⟨a, b, c⟩
    · exact absurd e2 h
    · exact ⟨a, b, c⟩
  · rw [zite_f (by omega)]
    exact ⟨a, b, c.1⟩
