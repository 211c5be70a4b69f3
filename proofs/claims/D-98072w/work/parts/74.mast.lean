/-! TWO MASTERS. E: of each side when it ends (0: not begun); F: of each master when he is free -/
def fUn (E : Int → Int) (s : Int) : Prop := E (2 * s) = 0 ∧ E (2 * s + 1) = 0
noncomputable def pA (K E : Int → Int) (c n : Int) : Int := zfd (fun a s => zite (fUn E s ∧ (a = -1 ∨ K (8 + 3 * a + (1 - c)) < K (8 + 3 * s + (1 - c)))) s a) (-1) n
noncomputable def pB (E : Int → Int) (c m n : Int) : Int := zfi (fun s => E (2 * s + c) = 0 ∧ E (2 * s + 1 - c) ≤ m) n
noncomputable def pup (K E : Int → Int) (c m n : Int) : Int := zite (pA K E c n = -1) (pB E c m n) (pA K E c n)
theorem pA_0 {K E : Int → Int} {c : Int} : pA K E c 0 = -1 := rfl
theorem pA_s {K E : Int → Int} {c s : Int} (h : 0 ≤ s) : pA K E c (s + 1) = zite (fUn E s ∧ (pA K E c s = -1 ∨ K (8 + 3 * pA K E c s + (1 - c)) < K (8 + 3 * s + (1 - c)))) s (pA K E c s) := zfd_s h
theorem pA_b {K E : Int → Int} {c : Int} : ∀ n : Nat, (pA K E c (n : Int) = -1 ∧ ∀ s, 0 ≤ s → s < (n : Int) → ¬ fUn E s) ∨ (0 ≤ pA K E c (n : Int) ∧ pA K E c (n : Int) < (n : Int) ∧ fUn E (pA K E c (n : Int))) := by
  intro n
  induction n with
  | zero => exact Or.inl ⟨rfl, fun s a b => by omega⟩
  | succ n ih =>
    rw [show ((n + 1 : Nat) : Int) = (n : Int) + 1 by omega, pA_s (by omega)]
    by_cases h : fUn E (n : Int) ∧ (pA K E c (n : Int) = -1 ∨ K (8 + 3 * pA K E c (n : Int) + (1 - c)) < K (8 + 3 * (n : Int) + (1 - c)))
    · rw [zite_t h]
      exact Or.inr ⟨by omega, by omega, h.1⟩
    · rw [zite_f h]
      rcases ih with ⟨e, q⟩ | ⟨a, b, q⟩
      · refine Or.inl ⟨e, fun s s0 s1 z => ?_⟩
        by_cases hs : s = (n : Int)
        · rw [hs] at z
          exact h ⟨z, Or.inl e⟩
        · exact q s s0 (by omega) z
      · exact Or.inr ⟨a, by omega, q⟩
theorem pA_i {K E : Int → Int} {c n : Int} (hn : 0 ≤ n) : (pA K E c n = -1 ∧ ∀ s, 0 ≤ s → s < n → ¬ fUn E s) ∨ (0 ≤ pA K E c n ∧ pA K E c n < n ∧ fUn E (pA K E c n)) := by
  obtain ⟨k, rfl⟩ := Int.eq_ofNat_of_zero_le hn
  exact pA_b k
theorem zfi_x {P : Int → Prop} : ∀ n : Nat, (zfi P (n : Int) = -1 ∧ ∀ j, 0 ≤ j → j < (n : Int) → ¬ P j) ∨ (0 ≤ zfi P (n : Int) ∧ zfi P (n : Int) < (n : Int) ∧ P (zfi P (n : Int))) := by
  intro n
  induction n with
  | zero => exact Or.inl ⟨rfl, fun s a b => by omega⟩
  | succ n ih =>
    unfold zfi at ih ⊢
    rw [show ((n + 1 : Nat) : Int) = (n : Int) + 1 by omega, zfd_s (by omega)]
    rcases ih with ⟨e, q⟩ | ⟨a, b, q⟩
    · rw [e]
      by_cases h : P (n : Int)
      · rw [zite_t ⟨rfl, h⟩]
        exact Or.inr ⟨by omega, by omega, h⟩
      · rw [zite_f (fun z => h z.2)]
        refine Or.inl ⟨rfl, fun s s0 s1 z => ?_⟩
        by_cases hs : s = (n : Int)
        · rw [hs] at z; exact h z
        · exact q s s0 (by omega) z
    · rw [zite_f (fun z => by omega)]
      exact Or.inr ⟨a, by omega, q⟩
theorem zfi_i {P : Int → Prop} {n : Int} (hn : 0 ≤ n) : (zfi P n = -1 ∧ ∀ j, 0 ≤ j → j < n → ¬ P j) ∨ (0 ≤ zfi P n ∧ zfi P n < n ∧ P (zfi P n)) := by
  obtain ⟨k, rfl⟩ := Int.eq_ofNat_of_zero_le hn
  exact zfi_x k
/-- who goes to a master: none, only if every slice is begun and none of those that lack this side is off the other one -/
theorem pup_i {K E : Int → Int} {c m n : Int} (hn : 0 ≤ n) (hc : c = 0 ∨ c = 1) (hE : ∀ j, 0 ≤ j → j < 2 * n → E j ≤ m ∨ E j ≤ m ∨ True) :
    (pup K E c m n = -1 ∧ (∀ s, 0 ≤ s → s < n → ¬ fUn E s) ∧ ∀ s, 0 ≤ s → s < n → ¬ (E (2 * s + c) = 0 ∧ E (2 * s + 1 - c) ≤ m)) ∨
    (0 ≤ pup K E c m n ∧ pup K E c m n < n ∧ E (2 * pup K E c m n + c) = 0) := by
  unfold pup
  rcases pA_i (K := K) (E := E) (c := c) hn with ⟨e, q⟩ | ⟨a, b, q⟩
  · rw [zite_t e]
    rcases zfi_i (P := fun s => E (2 * s + c) = 0 ∧ E (2 * s + 1 - c) ≤ m) hn with ⟨e2, q2⟩ | ⟨a, b, q2⟩
    · exact Or.inl ⟨e2, q, q2⟩
    · exact Or.inr ⟨a, b, q2.1⟩
  · rw [zite_f (by omega)]
    refine Or.inr ⟨a, b, ?_⟩
    rcases hc with rfl | rfl
    · rw [Int.add_zero]; exact q.1
    · exact q.2
/-- a function with one word changed -/
def fSet (F : Int → Int) (i v : Int) : Int → Int := fun j => if j = i then v else F j
theorem fSet_at {F : Int → Int} {i v : Int} : fSet F i v i = v := if_pos rfl
theorem fSet_ne {F : Int → Int} {i j v : Int} (h : j ≠ i) : fSet F i v j = F j := if_neg h
abbrev mStt : Type := zMm × (Int → Int) × (Int → Int)
/-- master c in minute m takes slice s -/
def mTk (K : Int → Int) (m c s : Int) (t : mStt) : mStt := (uGo t.1 s c m c (K (8 + 3 * s + c)), fSet t.2.1 (2 * s + c) (m + K (8 + 3 * s + c)), fSet t.2.2 c (m + K (8 + 3 * s + c)))
noncomputable def mSt (K : Int → Int) (n m c : Int) (t : mStt) : mStt := if m < t.2.2 c then t else if pup K t.2.1 c m n = -1 then t else mTk K m c (pup K t.2.1 c m n) t
def mAl (n : Int) (E : Int → Int) : Prop := ∀ j, 0 ≤ j → j < 2 * n → E j ≠ 0
noncomputable def mRn (K : Int → Int) (n : Int) : Nat → Int → mStt → zMm
  | 0, _, t => t.1
  | f + 1, m, t => @ite _ (mAl n t.2.1) (Classical.propDecidable _) t.1 (mRn K n f (m + 1) (mSt K n m 1 (mSt K n m 0 t)))
theorem mRn_0 {K : Int → Int} {n m : Int} {f : Nat} {t : mStt} (h : mAl n t.2.1) : mRn K n f m t = t.1 := by
  cases f with
  | zero => rfl
  | succ f => unfold mRn; rw [if_pos h]
theorem mRn_1 {K : Int → Int} {n m : Int} {f : Nat} {t : mStt} (h : ¬ mAl n t.2.1) : mRn K n (f + 1) m t = mRn K n f (m + 1) (mSt K n m 1 (mSt K n m 0 t)) := by
  conv => lhs; unfold mRn
  rw [if_neg h]
/-- what is still to do -/
def mW (K E : Int → Int) (n : Int) : Int := zs (fun j => if E j = 0 then fL0 K j else 0) (2 * n)
/-- holds in minute m -/
def mIv (K : Int → Int) (n T m : Int) (t : mStt) : Prop :=
  (∀ j, 0 ≤ j → j < 2 * n → 0 ≤ t.2.1 j) ∧ (0 ≤ t.2.2 0 ∧ 0 ≤ t.2.2 1) ∧
  (∀ s c, 0 ≤ s → s < n → (c = 0 ∨ c = 1) → t.2.1 (2 * s + c) ≤ t.2.2 c) ∧
  (∀ c, (c = 0 ∨ c = 1) → ∃ o, ∀ s, 0 ≤ s → s < n → s ≠ o → t.2.1 (2 * s + c) ≤ m) ∧
  m + max 0 (t.2.2 0 - m) + max 0 (t.2.2 1 - m) + mW K t.2.1 n ≤ T ∧
  (0 ≤ t.1 2 58 ∧ t.1 2 58 + acnt (fun j => t.2.1 j = 0) (2 * n) = 2 * n)
theorem zs_upd {f g : Int → Int} {i d : Int} (i0 : 0 ≤ i) (hg : ∀ j, j ≠ i → g j = f j) (hi : g i = f i - d) : ∀ k : Nat, i < (k : Int) → zs g (k : Int) = zs f (k : Int) - d := by
  have lo : ∀ k : Nat, (k : Int) ≤ i → zs g (k : Int) = zs f (k : Int) := fun k hk => zs_c (fun j a b => hg j (by omega))
  intro k
  induction k with
  | zero => intro h; omega
  | succ k ih =>
    intro h
    rw [show ((k + 1 : Nat) : Int) = (k : Int) + 1 by omega, zs_s (by omega), zs_s (by omega)]
    by_cases e : i = (k : Int)
    · rw [lo k (by omega), ← e, hi]
      omega
    · rw [ih (by omega), hg _ (by omega)]
      omega
theorem acnt_upd {P Q : Int → Prop} {i : Int} (i0 : 0 ≤ i) (hq : ∀ j, j ≠ i → (Q j ↔ P j)) (h1 : P i) (h2 : ¬ Q i) : ∀ k : Nat, i < (k : Int) → acnt Q (k : Int) = acnt P (k : Int) - 1 := by
  have lo : ∀ k : Nat, (k : Int) ≤ i → acnt Q (k : Int) = acnt P (k : Int) := fun k hk => acnt_c (fun j a b => hq j (by omega))
  intro k
  induction k with
  | zero => intro h; omega
  | succ k ih =>
    intro h
    rw [show ((k + 1 : Nat) : Int) = (k : Int) + 1 by omega]
    by_cases e : i = (k : Int)
    · rcases acnt_s (P := Q) (k := (k : Int)) (by omega) with ⟨p, _⟩ | ⟨_, e1⟩
      · rw [← e] at p; exact absurd p h2
      · rcases acnt_s (P := P) (k := (k : Int)) (by omega) with ⟨_, e2⟩ | ⟨p, _⟩
        · rw [e1, e2, lo k (by omega)]; omega
        · rw [← e] at p; exact absurd h1 p
    · have hk := ih (by omega)
      rcases acnt_s (P := Q) (k := (k : Int)) (by omega) with ⟨p, e1⟩ | ⟨p, e1⟩ <;> rcases acnt_s (P := P) (k := (k : Int)) (by omega) with ⟨p2, e2⟩ | ⟨p2, e2⟩
      · omega
      · exact absurd ((hq _ (by omega)).mp p) p2
      · exact absurd ((hq _ (by omega)).mpr p2) p
      · omega
theorem fL0_k {K : Int → Int} {s c : Int} (hc : c = 0 ∨ c = 1) : fL0 K (2 * s + c) = K (8 + 3 * s + c) := by
  unfold fL0
  rw [show (2 * s + c) / 2 = s by omega, show (2 * s + c) % 2 = c by omega]
theorem mIv.tk {K : Int → Int} {n T m c s : Int} {t : mStt} (h : mIv K n T m t) (hk : zKV K) (hn : n = K 5) (hm : 0 ≤ m) (hc : c = 0 ∨ c = 1) (hf : t.2.2 c ≤ m) (s0 : 0 ≤ s) (s1 : s < n) (hs : t.2.1 (2 * s + c) = 0) (ho : 0 ≤ t.1 2 58) : mIv K n T m (mTk K m c s t) := by
  obtain ⟨B, E, F⟩ := t
  obtain ⟨h1, h2, h3, h4, h5, h6⟩ := h
  have hk1 := hk.2.1 s s0 (by have := hk.1; omega)
  have hl : 1 ≤ K (8 + 3 * s + c) ∧ K (8 + 3 * s + c) ≤ 20 := by rcases hc with rfl | rfl <;> omega
  show mIv K n T m (uGo B s c m c (K (8 + 3 * s + c)), fSet E (2 * s + c) (m + K (8 + 3 * s + c)), fSet F c (m + K (8 + 3 * s + c)))
  simp only at h1 h2 h3 h4 h5 h6 hf hs ho
  refine ⟨fun j j0 j1 => ?_, ?_, fun s' c' a b hc' => ?_, fun c' hc' => ?_, ?_, ?_⟩
  · show 0 ≤ fSet E (2 * s + c) (m + K (8 + 3 * s + c)) j
    unfold fSet
    split
    · omega
    · exact h1 j j0 j1
  · show 0 ≤ fSet F c (m + K (8 + 3 * s + c)) 0 ∧ 0 ≤ fSet F c (m + K (8 + 3 * s + c)) 1
    unfold fSet
    constructor <;> (split <;> omega)
  · show fSet E (2 * s + c) (m + K (8 + 3 * s + c)) (2 * s' + c') ≤ fSet F c (m + K (8 + 3 * s + c)) c'
    have q := h3 s' c' a b hc'
    unfold fSet
    by_cases e : c' = c
    · rw [if_pos e]
      subst e
      split
      · exact Int.le_refl _
      · omega
    · rw [if_neg e, if_neg (by omega)]
      exact q
  · show ∃ o, ∀ s', 0 ≤ s' → s' < n → s' ≠ o → fSet E (2 * s + c) (m + K (8 + 3 * s + c)) (2 * s' + c') ≤ m
    by_cases e : c' = c
    · subst e
      refine ⟨s, fun s' a b hne => ?_⟩
      rw [fSet_ne (by omega)]
      have := h3 s' c' a b hc'
      omega
    · obtain ⟨o, ho⟩ := h4 c' hc'
      exact ⟨o, fun s' a b hne => by rw [fSet_ne (by omega)]; exact ho s' a b hne⟩
  · show m + max 0 (fSet F c (m + K (8 + 3 * s + c)) 0 - m) + max 0 (fSet F c (m + K (8 + 3 * s + c)) 1 - m) + mW K (fSet E (2 * s + c) (m + K (8 + 3 * s + c))) n ≤ T
    have hw : mW K (fSet E (2 * s + c) (m + K (8 + 3 * s + c))) n = mW K E n - K (8 + 3 * s + c) := by
      unfold mW
      have q := zs_upd (f := fun j => if E j = 0 then fL0 K j else 0) (g := fun j => if fSet E (2 * s + c) (m + K (8 + 3 * s + c)) j = 0 then fL0 K j else 0) (i := 2 * s + c) (d := K (8 + 3 * s + c)) (by omega)
        (fun j hj => by show (if fSet E (2 * s + c) (m + K (8 + 3 * s + c)) j = 0 then fL0 K j else 0) = _; rw [fSet_ne hj]) (by
          show (if fSet E (2 * s + c) (m + K (8 + 3 * s + c)) (2 * s + c) = 0 then fL0 K (2 * s + c) else 0) = (if E (2 * s + c) = 0 then fL0 K (2 * s + c) else 0) - K (8 + 3 * s + c)
          rw [fSet_at, if_neg (by omega), if_pos hs, fL0_k hc]
          omega) (2 * n).toNat (by omega)
      rw [show (((2 * n).toNat : Nat) : Int) = 2 * n by omega] at q
      exact q
    rw [hw]
    rcases hc with rfl | rfl
    · rw [fSet_at, fSet_ne (by omega)]; omega
    · rw [fSet_at, fSet_ne (by omega)]; omega
  · show 0 ≤ uGo B s c m c (K (8 + 3 * s + c)) 2 58 ∧ uGo B s c m c (K (8 + 3 * s + c)) 2 58 + acnt (fun j => fSet E (2 * s + c) (m + K (8 + 3 * s + c)) j = 0) (2 * n) = 2 * n
    rw [uGo_n]
    have q := acnt_upd (P := fun j => E j = 0) (Q := fun j => fSet E (2 * s + c) (m + K (8 + 3 * s + c)) j = 0) (i := 2 * s + c) (by omega)
      (fun j hj => by show fSet E (2 * s + c) (m + K (8 + 3 * s + c)) j = 0 ↔ _; rw [fSet_ne hj]) hs (by show ¬ fSet E (2 * s + c) (m + K (8 + 3 * s + c)) (2 * s + c) = 0; rw [fSet_at]; omega) (2 * n).toNat (by omega)
    rw [show (((2 * n).toNat : Nat) : Int) = 2 * n by omega] at q
    omega
theorem mIv.st {K : Int → Int} {n T m c : Int} {t : mStt} (h : mIv K n T m t) (hk : zKV K) (hn : n = K 5) (hm : 0 ≤ m) (hc : c = 0 ∨ c = 1) : mIv K n T m (mSt K n m c t) := by
  unfold mSt
  split
  · exact h
  · split
    · exact h
    · rename_i q1 q2
      rcases pup_i (K := K) (E := t.2.1) (c := c) (m := m) (n := n) (by have := hk.1; omega) hc (fun _ _ _ => Or.inr (Or.inr trivial)) with ⟨e, _⟩ | ⟨a, b, e⟩
      · exact absurd e q2
      · exact h.tk hk hn hm hc (by omega) a b e h.2.2.2.2.2.1
/-- a master who takes someone is busy then; who is busy stays so -/
theorem mSt_f {K : Int → Int} {n m c : Int} {t : mStt} (hk : zKV K) (hn : n = K 5) (hc : c = 0 ∨ c = 1) {d : Int} (hd : m < t.2.2 d) : m < (mSt K n m c t).2.2 d := by
  unfold mSt
  split
  · exact hd
  · split
    · exact hd
    · rename_i q1 q2
      rcases pup_i (K := K) (E := t.2.1) (c := c) (m := m) (n := n) (by have := hk.1; omega) hc (fun _ _ _ => Or.inr (Or.inr trivial)) with ⟨e, _⟩ | ⟨a, b, e⟩
      · exact absurd e q2
      · show m < fSet t.2.2 c (m + K (8 + 3 * pup K t.2.1 c m n + c)) d
        have hk1 := hk.2.1 (pup K t.2.1 c m n) a (by have := hk.1; omega)
        have hl : 1 ≤ K (8 + 3 * pup K t.2.1 c m n + c) := by rcases hc with rfl | rfl <;> omega
        unfold fSet
        split
        · omega
        · exact hd
/-- while someone lacks a side someone is busy behind a minute -/
theorem mSt_p {K : Int → Int} {n T m : Int} {t : mStt} (h : mIv K n T m t) (hk : zKV K) (hn : n = K 5) (hm : 0 ≤ m) (ha : ¬ mAl n t.2.1) : m < (mSt K n m 1 (mSt K n m 0 t)).2.2 0 ∨ m < (mSt K n m 1 (mSt K n m 0 t)).2.2 1 := by
  by_cases f0 : m < t.2.2 0
  · exact Or.inl (mSt_f hk hn (Or.inr rfl) (mSt_f hk hn (Or.inl rfl) f0))
  by_cases f1 : m < t.2.2 1
  · exact Or.inr (mSt_f hk hn (Or.inr rfl) (mSt_f hk hn (Or.inl rfl) f1))
  have hE : ∀ s c, 0 ≤ s → s < n → (c = 0 ∨ c = 1) → t.2.1 (2 * s + c) ≤ m := fun s c a b hc => by
    have := h.2.2.1 s c a b hc
    rcases hc with rfl | rfl <;> omega
  have busy : ∀ c u, (c = 0 ∨ c = 1) → ¬ m < u.2.2 c → pup K u.2.1 c m n ≠ -1 → m < (mSt K n m c u).2.2 c := fun c u hc hf hp => by
    unfold mSt
    rw [if_neg hf, if_neg hp]
    show m < fSet u.2.2 c (m + K (8 + 3 * pup K u.2.1 c m n + c)) c
    rw [fSet_at]
    rcases pup_i (K := K) (E := u.2.1) (c := c) (m := m) (n := n) (by have := hk.1; omega) hc (fun _ _ _ => Or.inr (Or.inr trivial)) with ⟨e, _⟩ | ⟨a, b, e⟩
    · exact absurd e hp
    · have hk1 := hk.2.1 (pup K u.2.1 c m n) a (by have := hk.1; omega)
      rcases hc with rfl | rfl <;> omega
  by_cases p0 : pup K t.2.1 0 m n = -1
  · have e0 : mSt K n m 0 t = t := by unfold mSt; rw [if_neg f0, if_pos p0]
    rw [e0]
    refine Or.inr (busy 1 t (Or.inr rfl) f1 (fun p1 => ha ?_))
    rcases pup_i (K := K) (E := t.2.1) (c := 0) (m := m) (n := n) (by have := hk.1; omega) (Or.inl rfl) (fun _ _ _ => Or.inr (Or.inr trivial)) with ⟨_, u0, q0⟩ | ⟨a, b, e⟩
    · rcases pup_i (K := K) (E := t.2.1) (c := 1) (m := m) (n := n) (by have := hk.1; omega) (Or.inr rfl) (fun _ _ _ => Or.inr (Or.inr trivial)) with ⟨_, u1, q1⟩ | ⟨a, b, e⟩
      · intro j j0 j1 z
        have e1 := hE (j / 2) 1 (by omega) (by omega) (Or.inr rfl)
        have e0 := hE (j / 2) 0 (by omega) (by omega) (Or.inl rfl)
        rcases (by omega : j % 2 = 0 ∨ j % 2 = 1) with q | q
        · exact q0 (j / 2) (by omega) (by omega) ⟨by rw [show 2 * (j / 2) + 0 = j by omega]; exact z, by rw [show 2 * (j / 2) + 1 - 0 = 2 * (j / 2) + 1 by omega]; exact e1⟩
        · exact q1 (j / 2) (by omega) (by omega) ⟨by rw [show 2 * (j / 2) + 1 = j by omega]; exact z, by rw [show 2 * (j / 2) + 1 - 1 = 2 * (j / 2) + 0 by omega]; exact e0⟩
      · omega
    · omega
  · exact Or.inl (mSt_f hk hn (Or.inr rfl) (busy 0 t (Or.inl rfl) f0 p0))
theorem mIv.nx {K : Int → Int} {n T m : Int} {t : mStt} (h : mIv K n T m t) (hb : m < t.2.2 0 ∨ m < t.2.2 1) : mIv K n T (m + 1) t := by
  obtain ⟨h1, h2, h3, h4, h5, h6⟩ := h
  refine ⟨h1, h2, h3, fun c hc => ?_, by omega, h6⟩
  obtain ⟨o, ho⟩ := h4 c hc
  exact ⟨o, fun s a b hne => by have := ho s a b hne; omega⟩
theorem rel.wgr {S S2 : zS} {m : zMm} {x : Int} {A : zMm} (h : rel S m x A) (hg : zGr S S2) : rel S2 m x A := h.set_no hg (fun _ _ _ _ _ _ => rfl) (fun _ _ _ _ => rfl) (fun _ _ _ => rfl) trivial
/-- a word of a cell that is new since S -/
theorem rel.upN {S : zS} {m : zMm} {x a i v : Int} {A : zMm} (h : rel S m x A) (h0 : zk S a = 0) (ha : x + 91 ≤ a) : rel S (zup m a i v) x A :=
  h.set_no zGr.rf (fun k j _ _ _ _ => zup_ne (by omega)) (fun c _ ho j => zup_ne (fun q => ho.1 (by rw [q.1]; exact h0))) (fun _ _ _ => rfl) trivial
theorem rel.nwN {S : zS} {m : zMm} {x a : Int} {κ : Nat} {A : zMm} (h : rel S m x A) (h0 : zk S a = 0) (ha : x + 91 ≤ a) : rel S (znw m κ a) x A :=
  h.set_no zGr.rf (fun k j _ _ _ _ => znw_ne (by omega)) (fun c _ ho j => znw_ne (fun q => ho.1 (by rw [q]; exact h0))) (fun _ _ _ => rfl) trivial
theorem zOut.nw {x a : Int} {κ : Nat} {m m2 : zMm} (h : zOut x m m2) (ha : a < x + 54 ∨ x + 91 ≤ a) : zOut x m (znw m2 κ a) := fun c h0 h1 j => by rw [znw_ne (by omega)]; exact h c h0 h1 j
theorem fL0_o {K : Int → Int} {s c : Int} (hc : c = 0 ∨ c = 1) : fL0 K (2 * s + 1 - c) = K (8 + 3 * s + (1 - c)) := by
  rw [show 2 * s + 1 - c = 2 * s + (1 - c) by omega]
  exact fL0_k (by omega)
theorem acnt_0i {P : Int → Prop} {n : Int} (hn : 0 ≤ n) : acnt P n ≤ 0 ↔ ∀ j, 0 ≤ j → j < n → ¬ P j := by
  have hp := acnt_p (P := P) hn
  constructor
  · intro h j a b q
    have := hp.mpr ⟨j, a, b, q⟩
    omega
  · intro h
    refine Classical.byContradiction fun q => ?_
    obtain ⟨j, a, b, c⟩ := hp.mp (by omega)
    exact h j a b c
theorem mAl_i {n : Int} {E : Int → Int} (hn : 0 ≤ n) : acnt (fun j => E j = 0) (2 * n) ≤ 0 ↔ mAl n E := acnt_0i (by omega)
/-- what is still to come of minute m, from master c on -/
noncomputable def mRs (K : Int → Int) (n m c : Int) (t : mStt) : mStt := if c = 0 then mSt K n m 1 (mSt K n m 0 t) else if c = 1 then mSt K n m 1 t else t
theorem mRs_s {K : Int → Int} {n m c : Int} {t : mStt} (h0 : 0 ≤ c) (h1 : c < 2) : mRs K n m c t = mRs K n m (c + 1) (mSt K n m c t) := by
  unfold mRs
  rcases (by omega : c = 0 ∨ c = 1) with rfl | rfl
  · rw [if_pos rfl, if_neg (by omega), if_pos (show (0 : Int) + 1 = 1 by omega)]
  · rw [if_neg (by omega), if_pos rfl, if_neg (by omega), if_neg (by omega)]
theorem mRs_2 {K : Int → Int} {n m : Int} {t : mStt} : mRs K n m 2 t = t := by
  unfold mRs
  rw [if_neg (by omega), if_neg (by omega)]
theorem mIv.s0 {K : Int → Int} {n : Int} {B : zMm} (hk : zKV K) (hn : n = K 5) (hB : B 2 58 = 0) : mIv K n (fAll K n) 0 (B, (fun _ => 0), (fun _ => 0)) := by
  have hk1 := hk.1
  have hw : mW K (fun _ => 0) n = fAll K n := by
    rw [← fL0_s (by omega)]
    exact zs_c (fun j _ _ => if_pos rfl)
  have ha : acnt (fun j => (fun _ : Int => (0 : Int)) j = 0) (2 * n) = 2 * n := by
    have key : ∀ k : Nat, acnt (fun _ => (0 : Int) = 0) (k : Int) = (k : Int) := by
      intro k
      induction k with
      | zero => rfl
      | succ k ih =>
        rw [show ((k + 1 : Nat) : Int) = (k : Int) + 1 by omega]
        rcases acnt_s (P := fun _ => (0 : Int) = 0) (k := (k : Int)) (by omega) with ⟨_, e⟩ | ⟨p, _⟩
        · omega
        · exact absurd rfl p
    have e := key (2 * n).toNat
    rw [show (((2 * n).toNat : Nat) : Int) = 2 * n by omega] at e
    exact e
  refine ⟨fun _ _ _ => Int.le_refl _, ⟨Int.le_refl _, Int.le_refl _⟩, fun _ _ _ _ _ => Int.le_refl _, fun _ _ => ⟨0, fun _ _ _ _ => Int.le_refl _⟩, ?_, ?_⟩
  · show 0 + max 0 ((0 : Int) - 0) + max 0 ((0 : Int) - 0) + mW K (fun _ => 0) n ≤ fAll K n
    omega
  · show 0 ≤ B 2 58 ∧ B 2 58 + acnt (fun j => (fun _ : Int => (0 : Int)) j = 0) (2 * n) = 2 * n
    omega
theorem mSt_t {K : Int → Int} {n m c s : Int} {t : mStt} (hf : ¬ m < t.2.2 c) (hp : pup K t.2.1 c m n = s) (hs : s ≠ -1) : mSt K n m c t = mTk K m c s t := by
  unfold mSt
  rw [if_neg hf, if_neg (by rw [hp]; exact hs), hp]
theorem mSt_u {K : Int → Int} {n m c : Int} {t : mStt} (h : m < t.2.2 c ∨ pup K t.2.1 c m n = -1) : mSt K n m c t = t := by
  unfold mSt
  by_cases q : m < t.2.2 c
  · rw [if_pos q]
  · rw [if_neg q, if_pos (h.resolve_left q)]
theorem yEw.G {m : zMm} {b : Int} {A : zMm} (h : yEw m b A) : zMG m b (A 2 58) (aGo (A 2) 58) := ⟨h.n, fun k w k0 k1 w0 w1 => by
  rw [h 2 _ (zUw.c (by omega) _)]
  show A 2 (59 + 5 * k + w) = A 2 (58 + 1 + 5 * k + w)
  congr 1⟩
theorem zKV.sd {K : Int → Int} {s c : Int} (h : zKV K) (s0 : 0 ≤ s) (s1 : s < 8) (hc : c = 0 ∨ c = 1) : 0 ≤ K (8 + 3 * s + c) ∧ K (8 + 3 * s + c) ≤ 20 := by
  have e := h.2.1 s s0 s1
  rcases hc with rfl | rfl <;> omega
theorem zGV.go {A : zMm} {s c f a n : Int} (h : zGV (A 2 58) (aGo (A 2) 58)) (hn : A 2 58 < 400) (hr : 0 ≤ s ∧ s < 8 ∧ 0 ≤ c ∧ c < 2 ∧ 0 ≤ f ∧ f ≤ 900 ∧ 0 ≤ a ∧ a < 4 ∧ 1 ≤ n ∧ n ≤ 400) : zGV (uGo A s c f a n 2 58) (aGo (uGo A s c f a n 2) 58) := by
  have hl := uGo_l (s := s) (c := c) (f := f) (a := a) (n := n) h.1
  rw [uGo_n]
  exact zGV.snoc h hn (fun k w k0 k1 w0 w1 => uGo_g k0 k1 w0 w1) (by rw [hl.1, hl.2.1, hl.2.2.1, hl.2.2.2.1, hl.2.2.2.2]; exact hr)
theorem zGV.nil {A : zMm} : zGV (uNil A 2 58) (aGo (uNil A 2) 58) := by
  rw [uNil_n]
  exact ⟨by omega, by omega, fun k a b => by omega⟩
