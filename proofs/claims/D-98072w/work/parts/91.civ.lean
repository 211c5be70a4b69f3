/-! COOKS: what holds in every minute -/
def cPt (K L : Int → Int) (j : Int) : Prop := 0 < L j ∧ L j < fL0 K j
theorem cOt_0 {s : Int} : cOt (2 * s) = 2 * s + 1 := by unfold cOt; rw [if_pos (by omega)]
theorem cOt_1 {s : Int} : cOt (2 * s + 1) = 2 * s := by unfold cOt; rw [if_neg (by omega)]; omega
/-- the side that is next: one that is begun if there is one -/
theorem cSd_p {K L : Int → Int} {s : Int} (h : cPt K L (2 * s) ∨ cPt K L (2 * s + 1)) : cPt K L (cSd K L s) := by
  unfold cSd cPt at *
  rw [Int.add_zero]
  split
  · assumption
  · split
    · assumption
    · rename_i a b
      rcases h with h | h
      · exact absurd h a
      · exact absurd h b
theorem cSd_l {K L : Int → Int} {s : Int} (ha : 0 ≤ L (2 * s)) (hb : 0 ≤ L (2 * s + 1)) (h : L (2 * s) + L (2 * s + 1) ≠ 0) : 0 < L (cSd K L s) := by
  unfold cSd
  rw [Int.add_zero]
  split
  · rename_i q; exact q.1
  · split
    · rename_i q; exact q.1
    · split
      · assumption
      · omega
/-- a side may be on in minute m -/
def cGd (K L O : Int → Int) (m j : Int) : Prop := 0 < L j ∧ ¬ cPt K L (cOt j) ∧ (O (cOt j) = 0 ∨ O (cOt j) + K 1 ≤ m)
/-- what is on -/
def cNv (K L O N : Int → Int) (m : Int) : Prop :=
  (∀ p, 0 ≤ p → p < K 0 → N p = -1 ∨ (0 ≤ N p ∧ N p < 2 * K 5 ∧ cGd K L O m (N p))) ∧
  (∀ p q, 0 ≤ p → p < K 0 → 0 ≤ q → q < K 0 → N p ≠ -1 → N q ≠ -1 → N p / 2 = N q / 2 → p = q)
def cS1 (K L : Int → Int) : Prop := ∀ s, 0 ≤ s → s < K 5 → ¬ (cPt K L (2 * s) ∧ cPt K L (2 * s + 1))
def cS2 (K L O : Int → Int) (m : Int) : Prop := ∀ j, 0 ≤ j → j < 2 * K 5 → cPt K L j → O (cOt j) = 0 ∨ O (cOt j) + K 1 ≤ m
/-- a slice that can go: its next side may be on -/
theorem cGo_d {K L O N : Int → Int} {m s : Int} (hL : ∀ j, 0 ≤ j → j < 2 * K 5 → 0 ≤ L j) (h1 : cS1 K L) (s0 : 0 ≤ s) (s1 : s < K 5) (h : cGo K L O N m s) : cGd K L O m (cSd K L s) := by
  obtain ⟨_, g2, g3⟩ := h
  have la := hL (2 * s) (by omega) (by omega)
  have lb := hL (2 * s + 1) (by omega) (by omega)
  refine ⟨cSd_l la lb g2, fun q => ?_, by omega⟩
  have hp : cPt K L (2 * s) ∨ cPt K L (2 * s + 1) := by
    rcases cSd_b (K := K) (L := L) (s := s) with e | e
    · rw [e, cOt_0] at q; exact Or.inr q
    · rw [e, cOt_1] at q; exact Or.inl q
  have h2 := cSd_p hp
  rcases cSd_b (K := K) (L := L) (s := s) with e | e
  · rw [e] at h2 q; rw [cOt_0] at q; exact h1 s s0 s1 ⟨h2, q⟩
  · rw [e] at h2 q; rw [cOt_1] at q; exact h1 s s0 s1 ⟨q, h2⟩
theorem cFl_v {K L O W : Int → Int} {r m : Int} (hk : zKV K) (hL : ∀ j, 0 ≤ j → j < 2 * K 5 → 0 ≤ L j) (h1 : cS1 K L) : ∀ (f : Nat) (N : Int → Int), cNv K L O N m → cNv K L O (cFl K L O W r m f N) m := by
  have hk0 := hk.1
  intro f
  induction f with
  | zero => intro N h; exact h
  | succ f ih =>
    intro N h
    by_cases z : zfi (fun p => N p = -1) (K 0) = -1 ∨ cCh K L O N r m (K 5) = -1
    · rw [cFl_0 z]; exact h
    · have za : zfi (fun p => N p = -1) (K 0) ≠ -1 := fun q => z (Or.inl q)
      have zb : cCh K L O N r m (K 5) ≠ -1 := fun q => z (Or.inr q)
      rw [cFl_1 za zb]
      refine ih _ ?_
      have hc := cCh_i (K := K) (L := L) (O := O) (N := N) (r := r) (m := m) (n := K 5) (by omega)
      obtain ⟨s, hs⟩ : ∃ z, z = cCh K L O N r m (K 5) := ⟨_, rfl⟩
      rw [← hs] at hc zb ⊢
      obtain ⟨s0, s1, hg⟩ : 0 ≤ s ∧ s < K 5 ∧ cGo K L O N m s := by rcases hc with q | q; exact absurd q.1 zb; exact q
      have fp := cFp_b (W := W) (d := cSd K L s) (show 0 ≤ K 0 by omega) za
      have hd := cGo_d hL h1 s0 s1 hg
      have hb := cSd_b (K := K) (L := L) (s := s)
      obtain ⟨c, hcc⟩ : ∃ z, z = cFp N W (K 0) (cSd K L s) := ⟨_, rfl⟩
      rw [← hcc] at fp ⊢
      refine ⟨fun p p0 p1 => ?_, fun p q p0 p1 q0 q1 hp hq he => ?_⟩
      · by_cases e : p = c
        · rw [e, fSet_at]; exact Or.inr ⟨by omega, by omega, hd⟩
        · rw [fSet_ne e]; exact h.1 p p0 p1
      · by_cases e : p = c
        · by_cases e2 : q = c
          · rw [e, e2]
          · rw [e, fSet_at] at he
            rw [fSet_ne e2] at hq he
            exact absurd ⟨q, q0, q1, hq, by omega⟩ hg.1
        · by_cases e2 : q = c
          · rw [e2, fSet_at] at he
            rw [fSet_ne e] at hp he
            exact absurd ⟨p, p0, p1, hp, by omega⟩ hg.1
          · rw [fSet_ne e] at hp he
            rw [fSet_ne e2] at hq he
            exact h.2 p q p0 p1 q0 q1 hp hq he
/-- what is on stays -/
theorem cFl_k {K L O W : Int → Int} {r m : Int} (hk : zKV K) : ∀ (f : Nat) (N : Int → Int) (p : Int), N p ≠ -1 → cFl K L O W r m f N p = N p := by
  have hk0 := hk.1
  intro f
  induction f with
  | zero => intro N p _; rfl
  | succ f ih =>
    intro N p h
    by_cases z : zfi (fun p => N p = -1) (K 0) = -1 ∨ cCh K L O N r m (K 5) = -1
    · rw [cFl_0 z]
    · have za : zfi (fun p => N p = -1) (K 0) ≠ -1 := fun q => z (Or.inl q)
      rw [cFl_1 za (fun q => z (Or.inr q))]
      have fp := cFp_b (W := W) (d := cSd K L (cCh K L O N r m (K 5))) (show 0 ≤ K 0 by omega) za
      have hne : p ≠ cFp N W (K 0) (cSd K L (cCh K L O N r m (K 5))) := fun q => h (by rw [q]; exact fp.2.2)
      rw [ih _ p (by rw [fSet_ne hne]; exact h), fSet_ne hne]
/-- nothing is on: nothing can go -/
theorem cFl_z {K L O W N : Int → Int} {r m : Int} (hk : zKV K) {f : Nat} (h : ∀ p, 0 ≤ p → p < K 0 → cFl K L O W r m (f + 1) N p = -1) : (∀ p, 0 ≤ p → p < K 0 → N p = -1) ∧ ∀ s, 0 ≤ s → s < K 5 → ¬ cGo K L O N m s := by
  have hk0 := hk.1
  have hN : ∀ p, 0 ≤ p → p < K 0 → N p = -1 := fun p p0 p1 => Classical.byContradiction fun q => by
    have e := cFl_k (L := L) (O := O) (W := W) (r := r) (m := m) hk (f + 1) N p q
    have := h p p0 p1
    exact q (by rw [← e]; exact this)
  refine ⟨hN, ?_⟩
  have za : zfi (fun p => N p = -1) (K 0) ≠ -1 := by rw [zfi_t (i := 0) (fun j a b => by omega) (by omega) (by omega) (hN 0 (by omega) (by omega))]; omega
  have hc := cCh_i (K := K) (L := L) (O := O) (N := N) (r := r) (m := m) (n := K 5) (by omega)
  rcases hc with q | q
  · exact q.2
  · exfalso
    have zb : cCh K L O N r m (K 5) ≠ -1 := by omega
    have fp := cFp_b (W := W) (d := cSd K L (cCh K L O N r m (K 5))) (show 0 ≤ K 0 by omega) za
    have hb := cSd_b (K := K) (L := L) (s := cCh K L O N r m (K 5))
    have e := h (cFp N W (K 0) (cSd K L (cCh K L O N r m (K 5)))) fp.1 fp.2.1
    rw [cFl_1 za zb, cFl_k hk f _ _ (by rw [fSet_at]; omega), fSet_at] at e
    omega
/-! the places, one by one -/
def cHas (N : Int → Int) (k j : Int) : Prop := ∃ p, 0 ≤ p ∧ p < k ∧ N p = j
theorem cHas_s {N : Int → Int} {k j : Int} (h : 0 ≤ k) : cHas N (k + 1) j ↔ cHas N k j ∨ N k = j := by
  constructor
  · rintro ⟨p, a, b, c⟩
    by_cases e : p = k
    · rw [e] at c; exact Or.inr c
    · exact Or.inl ⟨p, a, by omega, c⟩
  · rintro (⟨p, a, b, c⟩ | c)
    · exact ⟨p, a, by omega, c⟩
    · exact ⟨k, h, by omega, c⟩
theorem cTl_l {m : Int} {N : Int → Int} {t : kSt} {pl : Int} (hN : ∀ p q, 0 ≤ p → p < pl → 0 ≤ q → q < pl → N p ≠ -1 → N q ≠ -1 → N p / 2 = N q / 2 → p = q) : ∀ k : Nat, (k : Int) ≤ pl → ∀ j, 0 ≤ j →
    (cTl m N k t).2.1 j = zite (cHas N (k : Int) j) (t.2.1 j - 1) (t.2.1 j) ∧ (cTl m N k t).2.2.1 j = zite (cHas N (k : Int) j) (m + 1) (t.2.2.1 j) := by
  intro k
  induction k with
  | zero =>
    intro _ j _
    have e : ¬ cHas N ((0 : Nat) : Int) j := fun ⟨p, a, b, _⟩ => by omega
    rw [zite_f e, zite_f e]
    exact ⟨rfl, rfl⟩
  | succ k ih =>
    intro hk j hj
    have i := ih (by omega) j hj
    have hs := cHas_s (N := N) (k := (k : Int)) (j := j) (by omega)
    have ek : ((k + 1 : Nat) : Int) = (k : Int) + 1 := by omega
    show (if N (k : Int) = -1 then (cTl m N k t).2.1 else fSet (cTl m N k t).2.1 (N (k : Int)) ((cTl m N k t).2.1 (N (k : Int)) - 1)) j = _ ∧ (if N (k : Int) = -1 then (cTl m N k t).2.2.1 else fSet (cTl m N k t).2.2.1 (N (k : Int)) (m + 1)) j = _
    rw [ek]
    by_cases h : N (k : Int) = -1
    · rw [if_pos h, if_pos h, i.1, i.2]
      exact ⟨zite_c ⟨fun q => hs.mpr (Or.inl q), fun q => (hs.mp q).elim id (fun z => by omega)⟩ (fun _ => rfl) (fun _ => rfl), zite_c ⟨fun q => hs.mpr (Or.inl q), fun q => (hs.mp q).elim id (fun z => by omega)⟩ (fun _ => rfl) (fun _ => rfl)⟩
    · rw [if_neg h, if_neg h]
      by_cases e : j = N (k : Int)
      · have hn : ¬ cHas N (k : Int) j := fun ⟨p, a, b, c⟩ => by
          have := hN p (k : Int) a (by omega) (by omega) (by omega) (by omega) h (by rw [c, e])
          omega
        rw [zite_f hn] at i
        rw [zite_t (hs.mpr (Or.inr e.symm)), zite_t (hs.mpr (Or.inr e.symm)), ← e, fSet_at, fSet_at, i.1]
        exact ⟨rfl, rfl⟩
      · rw [fSet_ne e, fSet_ne e, i.1, i.2]
        exact ⟨zite_c ⟨fun q => hs.mpr (Or.inl q), fun q => (hs.mp q).elim id (fun z => absurd z.symm e)⟩ (fun _ => rfl) (fun _ => rfl), zite_c ⟨fun q => hs.mpr (Or.inl q), fun q => (hs.mp q).elim id (fun z => absurd z.symm e)⟩ (fun _ => rfl) (fun _ => rfl)⟩
theorem cTl_w {m : Int} {N : Int → Int} {t : kSt} : ∀ k : Nat, ∀ p, (cTl m N k t).2.2.2.1 p = if 0 ≤ p ∧ p < (k : Int) then N p else t.2.2.2.1 p := by
  intro k
  induction k with
  | zero => intro p; rw [if_neg (by omega)]; rfl
  | succ k ih =>
    intro p
    show fSet (cTl m N k t).2.2.2.1 (k : Int) (N (k : Int)) p = _
    by_cases e : p = (k : Int)
    · rw [e, fSet_at, if_pos (by omega)]
    · rw [fSet_ne e, ih]
      by_cases q : 0 ≤ p ∧ p < (k : Int)
      · rw [if_pos q, if_pos (by omega)]
      · rw [if_neg q, if_neg (by omega)]
