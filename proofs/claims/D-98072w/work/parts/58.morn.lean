/-! MORNINGS: draws -/
def fSd (s : Int) : Int := (s * 1103515245 + 12345).bmod 4294967296
def fDr (s n : Int) : Int := fSd s % 4294967296 / 256 % n
theorem fSd_i (s : Int) : zi (fSd s) := by
  unfold fSd zi
  have h1 := Int.le_bmod (x := s * 1103515245 + 12345) (m := 4294967296) (by omega)
  have h2 := Int.bmod_lt (x := s * 1103515245 + 12345) (m := 4294967296) (by omega)
  omega
theorem fDr_b {s n : Int} (h : 0 < n) : 0 ≤ fDr s n ∧ fDr s n < n := ⟨Int.emod_nonneg _ (by omega), Int.emod_lt_of_pos _ h⟩
/-- a slice with minutes left that is not on yet -/
def fCd (L : Int → Int) (on s : Int) : Prop := ¬ zbit on s ∧ 0 < L (2 * s) + L (2 * s + 1)
/-- the k-th of them -/
noncomputable def fKt (L : Int → Int) (on k n : Int) : Int := zfi (fun s => fCd L on s ∧ acnt (fCd L on) s = k) n
theorem acnt_j {P : Int → Prop} {j i k : Int} (h0 : 0 ≤ j) (h : j < i) (hj : P j) (he : acnt P j = k) : k < acnt P i := by
  have h1 := acnt_m (P := P) (k := j + 1) (n := i) (by omega) (by omega)
  rcases acnt_s (P := P) h0 with ⟨_, e⟩ | ⟨q, _⟩
  · omega
  · exact absurd hj q
theorem fKt_e {L : Int → Int} {on k n s : Int} (h0 : 0 ≤ s) (h1 : s < n) (h : fCd L on s) (hk : acnt (fCd L on) s = k) : fKt L on k n = s := by
  unfold fKt
  refine zfi_t (fun j j0 j1 q => ?_) h0 h1 ⟨h, hk⟩
  have := acnt_j j0 j1 q.1 q.2
  omega
theorem zfi_c {P Q : Int → Prop} {k : Int} (h : ∀ j, 0 ≤ j → j < k → (P j ↔ Q j)) : zfi P k = zfi Q k := by
  rcases Int.lt_or_le k 0 with q | q
  · unfold zfi zfd
    rw [show k.toNat = 0 by omega]
    rfl
  · obtain ⟨n, rfl⟩ := Int.eq_ofNat_of_zero_le q
    clear q
    induction n with
    | zero => rfl
    | succ n ih =>
      have e := ih (fun j a b => h j a (by omega))
      unfold zfi at e ⊢
      rw [show ((n + 1 : Nat) : Int) = (n : Int) + 1 by omega, zfd_s (by omega), zfd_s (by omega), e]
      have hk := h (n : Int) (by omega) (by omega)
      exact zite_c (by rw [hk]) (fun _ => rfl) (fun _ => rfl)
/-- the same minutes left at the first 2 n words -/
def fLe (n : Int) (L M : Int → Int) : Prop := ∀ j, 0 ≤ j → j < 2 * n → L j = M j
theorem fCd_c {n : Int} {L M : Int → Int} (h : fLe n L M) (on : Int) : ∀ j, 0 ≤ j → j < n → (fCd L on j ↔ fCd M on j) := by
  intro j a b
  unfold fCd
  rw [h (2 * j) (by omega) (by omega), h (2 * j + 1) (by omega) (by omega)]
theorem fCn_c {n : Int} {L M : Int → Int} (h : fLe n L M) (on : Int) {k : Int} (hk : k ≤ n) : acnt (fCd L on) k = acnt (fCd M on) k :=
  acnt_c (fun j a b => fCd_c h on j a (by omega))
theorem fKt_c {n : Int} {L M : Int → Int} (h : fLe n L M) (on k : Int) : fKt L on k n = fKt M on k n := by
  unfold fKt
  exact zfi_c (fun j a b => by rw [fCd_c h on j a b, fCn_c h on (k := j) (by omega)])
/-- one slice is drawn when c > 0 of them may be -/
theorem fKt_i {L : Int → Int} {on k n : Int} (hn : 0 ≤ n) (h0 : 0 ≤ k) (h1 : k < acnt (fCd L on) n) : 0 ≤ fKt L on k n ∧ fKt L on k n < n ∧ fCd L on (fKt L on k n) := by
  have key : ∀ q : Nat, k < acnt (fCd L on) (q : Int) → ∃ s, 0 ≤ s ∧ s < (q : Int) ∧ fCd L on s ∧ acnt (fCd L on) s = k := by
    intro q
    induction q with
    | zero => intro h; rw [show ((0 : Nat) : Int) = 0 from rfl, acnt_0] at h; omega
    | succ q ih =>
      intro h
      rw [show ((q + 1 : Nat) : Int) = (q : Int) + 1 by omega] at h
      by_cases hq : k < acnt (fCd L on) (q : Int)
      · obtain ⟨s, a, b, c⟩ := ih hq
        exact ⟨s, a, by omega, c⟩
      · rcases acnt_s (P := fCd L on) (k := (q : Int)) (by omega) with ⟨p, e⟩ | ⟨p, e⟩
        · exact ⟨q, by omega, by omega, p, by omega⟩
        · omega
  obtain ⟨s, a, b, c, e⟩ := key n.toNat (by rw [show ((n.toNat : Nat) : Int) = n by omega]; exact h1)
  have es := fKt_e (n := n) a (by omega) c e
  rw [es]
  exact ⟨a, by omega, c⟩
/-- L with a minute less at j -/
noncomputable def fLd (L : Int → Int) (i : Int) : Int → Int := fun j => zite (j = i) (L j - 1) (L j)
/-- the side that goes next, and the seed behind it -/
noncomputable def fSe (L : Int → Int) (sd s : Int) : Int := zite (0 < L (2 * s) ∧ 0 < L (2 * s + 1)) (fDr sd 2) (zite (0 < L (2 * s)) 0 1)
noncomputable def fSs (L : Int → Int) (sd s : Int) : Int := zite (0 < L (2 * s) ∧ 0 < L (2 * s + 1)) (fSd sd) sd
theorem fSe_b (L : Int → Int) (sd s : Int) : 0 ≤ fSe L sd s ∧ fSe L sd s < 2 := by
  unfold fSe
  have := fDr_b (s := sd) (n := 2) (by omega)
  by_cases h : 0 < L (2 * s) ∧ 0 < L (2 * s + 1)
  · rw [zite_t h]; exact this
  · rw [zite_f h]
    by_cases h2 : 0 < L (2 * s)
    · rw [zite_t h2]; omega
    · rw [zite_f h2]; omega
theorem fSe_c {n : Int} {L M : Int → Int} (h : fLe n L M) (sd : Int) {s : Int} (s0 : 0 ≤ s) (s1 : s < n) : fSe L sd s = fSe M sd s ∧ fSs L sd s = fSs M sd s := by
  unfold fSe fSs
  rw [h (2 * s) (by omega) (by omega), h (2 * s + 1) (by omega) (by omega)]
  exact ⟨rfl, rfl⟩
theorem fLd_c {n : Int} {L M : Int → Int} (h : fLe n L M) (i : Int) : fLe n (fLd L i) (fLd M i) := by
  intro j a b
  unfold fLd
  rw [h j a b]
/-- a morning with q places to go: seed, minutes left, their sum, what is on. What is behind it: seed, minutes, sum. -/
noncomputable def mIn (n : Int) : Nat → Int → (Int → Int) → Int → Int → Int × (Int → Int) × Int
  | 0, sd, L, left, _ => (sd, L, left)
  | q + 1, sd, L, left, on =>
    @ite _ (acnt (fCd L on) n = 0) (Classical.propDecidable _) (sd, L, left)
      (mIn n q (fSs L (fSd sd) (fKt L on (fDr sd (acnt (fCd L on) n)) n))
        (fLd L (2 * fKt L on (fDr sd (acnt (fCd L on) n)) n + fSe L (fSd sd) (fKt L on (fDr sd (acnt (fCd L on) n)) n)))
        (left - 1) (zor on (1 * 2 ^ (fKt L on (fDr sd (acnt (fCd L on) n)) n).toNat)))
theorem mIn_c {n : Int} (hn : 0 ≤ n) : ∀ (q : Nat) {sd left on : Int} {L M : Int → Int}, fLe n L M → (mIn n q sd L left on).1 = (mIn n q sd M left on).1 ∧ fLe n (mIn n q sd L left on).2.1 (mIn n q sd M left on).2.1 ∧ (mIn n q sd L left on).2.2 = (mIn n q sd M left on).2.2 := by
  intro q
  induction q with
  | zero => intro sd left on L M h; exact ⟨rfl, h, rfl⟩
  | succ q ih =>
    intro sd left on L M h
    unfold mIn
    rw [← fCn_c h on (k := n) (by omega)]
    by_cases hc : acnt (fCd L on) n = 0
    · rw [if_pos hc, if_pos hc]; exact ⟨rfl, h, rfl⟩
    · rw [if_neg hc, if_neg hc, ← fKt_c h on]
      have hb := acnt_b (P := fCd L on) hn
      have hd := fDr_b (s := sd) (n := acnt (fCd L on) n) (by omega)
      have hk := fKt_i (L := L) (on := on) hn hd.1 hd.2
      have he := fSe_c h (fSd sd) hk.1 hk.2.1
      rw [← he.1, ← he.2]
      exact ih (fLd_c h _)
/-- how many mornings: f at most, q places -/
noncomputable def mOu (n : Int) (q : Nat) : Nat → Int → (Int → Int) → Int → Int
  | 0, _, _, _ => 0
  | f + 1, sd, L, left => zite (0 < left) (1 + mOu n q f (mIn n q sd L left 0).1 (mIn n q sd L left 0).2.1 (mIn n q sd L left 0).2.2) 0
theorem mOu_c {n : Int} (hn : 0 ≤ n) (q : Nat) : ∀ (f : Nat) {sd left : Int} {L M : Int → Int}, fLe n L M → mOu n q f sd L left = mOu n q f sd M left := by
  intro f
  induction f with
  | zero => intro _ _ _ _ _; rfl
  | succ f ih =>
    intro sd left L M h
    unfold mOu
    have hi := mIn_c (sd := sd) (left := left) (on := 0) hn q h
    rw [← hi.1, ← hi.2.2, ih hi.2.1]
theorem fLd_z {L : Int → Int} {i : Int} (h0 : 0 ≤ i) : ∀ q : Nat, zs (fLd L i) (q : Int) = zs L (q : Int) - zite (i < (q : Int)) 1 0 := by
  intro q
  induction q with
  | zero => rw [zite_f (by omega)]; rfl
  | succ q ih =>
    rw [show ((q + 1 : Nat) : Int) = (q : Int) + 1 by omega, zs_s (by omega), zs_s (by omega), ih]
    unfold fLd
    by_cases he : (q : Int) = i
    · rw [zite_t he, zite_f (by omega), zite_t (by omega)]; omega
    · rw [zite_f he]
      by_cases hl : i < (q : Int)
      · rw [zite_t hl, zite_t (by omega)]; omega
      · rw [zite_f hl, zite_f (by omega)]; omega
/-- minutes left: none below 0, none above 20; left is their sum -/
def fOk (n : Int) (L : Int → Int) (left : Int) : Prop := (∀ j, 0 ≤ j → j < 2 * n → 0 ≤ L j ∧ L j ≤ 20) ∧ left = zs L (2 * n)
/-- the side that goes has minutes left -/
theorem fSe_p {L : Int → Int} {on s sd : Int} (h : fCd L on s) (ha : 0 ≤ L (2 * s)) (hb : 0 ≤ L (2 * s + 1)) : 0 < L (2 * s + fSe L sd s) := by
  have h2 := h.2
  unfold fSe
  have hd := fDr_b (s := sd) (n := 2) (by omega)
  by_cases hc : 0 < L (2 * s) ∧ 0 < L (2 * s + 1)
  · rw [zite_t hc]
    rcases (by omega : fDr sd 2 = 0 ∨ fDr sd 2 = 1) with e | e
    · rw [e, Int.add_zero]; exact hc.1
    · rw [e]; exact hc.2
  · rw [zite_f hc]
    by_cases hd : 0 < L (2 * s)
    · rw [zite_t hd, Int.add_zero]; exact hd
    · rw [zite_f hd]; omega
theorem fOk.ld {n : Int} {L : Int → Int} {left i : Int} (h : fOk n L left) (h0 : 0 ≤ i) (h1 : i < 2 * n) (hp : 0 < L i) : fOk n (fLd L i) (left - 1) := by
  refine ⟨fun j a b => ?_, ?_⟩
  · have := h.1 j a b
    unfold fLd
    by_cases e : j = i
    · rw [zite_t e, e]; rw [e] at this; omega
    · rw [zite_f e]; exact this
  · have e := fLd_z (L := L) h0 (2 * n).toNat
    rw [show (((2 * n).toNat : Nat) : Int) = 2 * n by omega, zite_t h1] at e
    rw [e, h.2]
theorem mIn_v {n : Int} (hn : 0 ≤ n) : ∀ (q : Nat) {sd left on : Int} {L : Int → Int}, fOk n L left → fOk n (mIn n q sd L left on).2.1 (mIn n q sd L left on).2.2 ∧ (mIn n q sd L left on).2.2 ≤ left := by
  intro q
  induction q with
  | zero => intro sd left on L h; exact ⟨h, Int.le_refl _⟩
  | succ q ih =>
    intro sd left on L h
    unfold mIn
    by_cases hc : acnt (fCd L on) n = 0
    · rw [if_pos hc]; exact ⟨h, Int.le_refl _⟩
    · rw [if_neg hc]
      have hb := acnt_b (P := fCd L on) hn
      have hd := fDr_b (s := sd) (n := acnt (fCd L on) n) (by omega)
      have hk := fKt_i (L := L) (on := on) hn hd.1 hd.2
      have hs := fSe_b L (fSd sd) (fKt L on (fDr sd (acnt (fCd L on) n)) n)
      have hp := fSe_p (sd := fSd sd) hk.2.2 (h.1 _ (by omega) (by omega)).1 (h.1 _ (by omega) (by omega)).1
      have r := ih (sd := fSs L (fSd sd) (fKt L on (fDr sd (acnt (fCd L on) n)) n)) (on := zor on (1 * 2 ^ (fKt L on (fDr sd (acnt (fCd L on) n)) n).toNat)) (h.ld (i := 2 * fKt L on (fDr sd (acnt (fCd L on) n)) n + fSe L (fSd sd) (fKt L on (fDr sd (acnt (fCd L on) n)) n)) (by omega) (by omega) hp)
      exact ⟨r.1, by omega⟩
theorem zbit_0 (k : Int) : ¬ zbit 0 k := by unfold zbit; rw [Int.zero_ediv]; decide
/-- while a minute is left some slice may be drawn, so a morning takes one at least -/
theorem mIn_l {n : Int} (hn : 0 ≤ n) {q : Nat} {sd left : Int} {L : Int → Int} (h : fOk n L left) (hl : 0 < left) : (mIn n (q + 1) sd L left 0).2.2 < left := by
  unfold mIn
  have hc : ¬ acnt (fCd L 0) n = 0 := by
    intro hc
    have hz : ∀ k : Nat, (k : Int) ≤ n → zs L (2 * (k : Int)) = 0 := by
      intro k
      induction k with
      | zero => intro _; rfl
      | succ k ih =>
        intro hk
        have e := ih (by omega)
        rw [show 2 * ((k + 1 : Nat) : Int) = 2 * (k : Int) + 1 + 1 by omega, zs_s (by omega), zs_s (by omega), e]
        have a := (h.1 (2 * (k : Int)) (by omega) (by omega)).1
        have b := (h.1 (2 * (k : Int) + 1) (by omega) (by omega)).1
        have np : ¬ fCd L 0 (k : Int) := fun p => by
          have := (acnt_p (P := fCd L 0) hn).2 ⟨k, by omega, by omega, p⟩
          omega
        have : ¬ 0 < L (2 * (k : Int)) + L (2 * (k : Int) + 1) := fun p => np ⟨zbit_0 _, p⟩
        omega
    have e := hz n.toNat (by omega)
    rw [show ((n.toNat : Nat) : Int) = n by omega] at e
    have := h.2
    omega
  rw [if_neg hc]
  have hb := acnt_b (P := fCd L 0) hn
  have hd := fDr_b (s := sd) (n := acnt (fCd L 0) n) (by omega)
  have hk := fKt_i (L := L) (on := 0) hn hd.1 hd.2
  have hs := fSe_b L (fSd sd) (fKt L 0 (fDr sd (acnt (fCd L 0) n)) n)
  have hp := fSe_p (sd := fSd sd) hk.2.2 (h.1 _ (by omega) (by omega)).1 (h.1 _ (by omega) (by omega)).1
  have r := mIn_v (on := zor 0 (1 * 2 ^ (fKt L 0 (fDr sd (acnt (fCd L 0) n)) n).toNat)) (sd := fSs L (fSd sd) (fKt L 0 (fDr sd (acnt (fCd L 0) n)) n)) hn q (h.ld (i := 2 * fKt L 0 (fDr sd (acnt (fCd L 0) n)) n + fSe L (fSd sd) (fKt L 0 (fDr sd (acnt (fCd L 0) n)) n)) (by omega) (by omega) hp)
  omega
/-- fuel enough is fuel enough -/
theorem mOu_s {n : Int} (hn : 0 ≤ n) {q : Nat} : ∀ (g f : Nat) {sd left : Int} {L : Int → Int}, fOk n L left → left ≤ (g : Int) → g ≤ f → mOu n (q + 1) f sd L left = mOu n (q + 1) g sd L left := by
  intro g
  induction g with
  | zero =>
    intro f sd left L h hl hf
    cases f with
    | zero => rfl
    | succ f => unfold mOu; rw [zite_f (by omega)]
  | succ g ih =>
    intro f sd left L h hl hf
    cases f with
    | zero => omega
    | succ f =>
      unfold mOu
      by_cases hp : 0 < left
      · rw [zite_t hp, zite_t hp]
        have hv := mIn_v (sd := sd) (on := 0) hn (q + 1) h
        have hm := mIn_l (q := q) (sd := sd) hn h hp
        rw [ih f hv.1 (by omega) (by omega)]
      · rw [zite_f hp, zite_f hp]
theorem zs_two (L : Int → Int) : ∀ q : Nat, zs L (2 * (q : Int)) = zs (fun s => L (2 * s) + L (2 * s + 1)) (q : Int) := by
  intro q
  induction q with
  | zero => rfl
  | succ q ih =>
    rw [show 2 * ((q + 1 : Nat) : Int) = 2 * (q : Int) + 1 + 1 by omega, zs_s (by omega), zs_s (by omega), ih, show ((q + 1 : Nat) : Int) = (q : Int) + 1 by omega, zs_s (by omega)]
    omega
theorem zs_to {L : Int → Int} {n : Int} (hn : 0 ≤ n) : zs L (2 * n) = zs (fun s => L (2 * s) + L (2 * s + 1)) n := by
  have e := zs_two L n.toNat
  rw [show ((n.toNat : Nat) : Int) = n by omega] at e
  exact e
/-- one step of a morning: p places to go still -/
theorem mIn_0 {n : Int} {q : Nat} {sd left on : Int} {L : Int → Int} (h : acnt (fCd L on) n = 0) : mIn n q sd L left on = (sd, L, left) := by
  cases q with
  | zero => rfl
  | succ q => unfold mIn; rw [if_pos h]
theorem mIn_s {n s c : Int} {q : Nat} {sd left on : Int} {L : Int → Int} (h : ¬ acnt (fCd L on) n = 0) (hs : s = fKt L on (fDr sd (acnt (fCd L on) n)) n) (hc : c = 2 * s + fSe L (fSd sd) s) :
    mIn n (q + 1) sd L left on = mIn n q (fSs L (fSd sd) s) (fLd L c) (left - 1) (zor on (1 * 2 ^ s.toNat)) := by
  subst hc hs
  conv => lhs; unfold mIn
  rw [if_neg h]
theorem mOu_0 {n : Int} {q f : Nat} {sd left : Int} {L : Int → Int} (h : left ≤ 0) : mOu n q f sd L left = 0 := by
  cases f with
  | zero => rfl
  | succ f => unfold mOu; rw [zite_f (by omega)]
theorem mOu_1 {n : Int} (hn : 0 ≤ n) {q f : Nat} {sd left : Int} {L : Int → Int} (hk : fOk n L left) (h : 0 < left) (hf : left ≤ (f : Int)) : mOu n (q + 1) f sd L left = 1 + mOu n (q + 1) f (mIn n (q + 1) sd L left 0).1 (mIn n (q + 1) sd L left 0).2.1 (mIn n (q + 1) sd L left 0).2.2 := by
  cases f with
  | zero => omega
  | succ f =>
    have hv := mIn_v (sd := sd) (on := 0) hn (q + 1) hk
    have hm := mIn_l (q := q) (sd := sd) hn hk h
    rw [mOu_s hn f (f + 1) hv.1 (by omega) (by omega)]
    conv => lhs; unfold mOu
    rw [zite_t h]
theorem fOk.p {n left : Int} {L : Int → Int} (h : fOk n L left) (hn : 0 ≤ n) : 0 ≤ left ∧ left ≤ 40 * n := by
  have q := zs_b (f := L) (k := 2 * n) (B := 20) (by omega) h.1
  have e := h.2
  omega
theorem mOu_b {n : Int} {q : Nat} : ∀ (f : Nat) {sd left : Int} {L : Int → Int}, 0 ≤ mOu n q f sd L left ∧ mOu n q f sd L left ≤ (f : Int) := by
  intro f
  induction f with
  | zero => intro sd left L; exact ⟨Int.le_refl _, Int.le_refl _⟩
  | succ f ih =>
    intro sd left L
    unfold mOu
    by_cases h : 0 < left
    · rw [zite_t h]
      have := ih (sd := (mIn n q sd L left 0).1) (left := (mIn n q sd L left 0).2.2) (L := (mIn n q sd L left 0).2.1)
      omega
    · rw [zite_f h]; omega
