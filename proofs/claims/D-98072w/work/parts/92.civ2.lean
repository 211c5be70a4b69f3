/-! COOKS: from minute to minute -/
/-- how long a slice may still have to wait between its sides -/
def cPh (K L O : Int → Int) (m s : Int) : Int :=
  if 0 < L (2 * s) ∧ 0 < L (2 * s + 1) then K 1
  else if 0 < L (2 * s) ∧ L (2 * s) = fL0 K (2 * s) then max 0 (O (2 * s + 1) + K 1 - m)
  else if 0 < L (2 * s + 1) ∧ L (2 * s + 1) = fL0 K (2 * s + 1) then max 0 (O (2 * s) + K 1 - m)
  else 0
def cI (K L O W : Int → Int) (T m : Int) : Prop :=
  (∀ j, 0 ≤ j → j < 2 * K 5 → 0 ≤ L j ∧ L j ≤ fL0 K j) ∧ (∀ j, 0 ≤ j → j < 2 * K 5 → 0 ≤ O j ∧ O j ≤ m ∧ (O j ≠ 0 → L j < fL0 K j)) ∧
  cS1 K L ∧ cS2 K L O m ∧ (∀ p, 0 ≤ p → p < K 0 → W p = -1 ∨ (0 ≤ W p ∧ W p < 2 * K 5 ∧ L (W p) < fL0 K (W p))) ∧
  (∀ p q, 0 ≤ p → p < K 0 → 0 ≤ q → q < K 0 → W p ≠ -1 → W q ≠ -1 → W p / 2 = W q / 2 → p = q) ∧
  m + zs L (2 * K 5) + zs (cPh K L O m) (K 5) ≤ T
/-- what goes on from the last minute may be on -/
theorem cN0_v {K L O W : Int → Int} {T m : Int} (h : cI K L O W T m) : cNv K L O (cN0 K L W) m := by
  obtain ⟨h1, h2, h3, h4, h5, h6, _⟩ := h
  have key : ∀ p, 0 ≤ p → p < K 0 → cN0 K L W p = -1 ∨ (cN0 K L W p = W p ∧ W p ≠ -1 ∧ 0 < L (W p)) := fun p p0 p1 => by
    unfold cN0
    by_cases q : W p ≠ -1 ∧ 0 < L (W p) ∧ 0 < K (8 + 3 * (W p / 2) + 2)
    · rw [if_pos q]; exact Or.inr ⟨rfl, q.1, q.2.1⟩
    · rw [if_neg q]; exact Or.inl rfl
  refine ⟨fun p p0 p1 => ?_, fun p q p0 p1 q0 q1 hp hq he => ?_⟩
  · rcases key p p0 p1 with e | ⟨e, e2, e3⟩
    · exact Or.inl e
    · rw [e]
      rcases h5 p p0 p1 with z | ⟨z0, z1, z2⟩
      · exact absurd z e2
      · refine Or.inr ⟨z0, z1, e3, fun hc => ?_, h4 (W p) z0 z1 ⟨e3, z2⟩⟩
        rcases (by omega : W p % 2 = 0 ∨ W p % 2 = 1) with k | k
        · have ew : W p = 2 * (W p / 2) := by omega
          rw [ew] at hc e3 z2
          rw [cOt_0] at hc
          exact h3 (W p / 2) (by omega) (by omega) ⟨⟨e3, z2⟩, hc⟩
        · have ew : W p = 2 * (W p / 2) + 1 := by omega
          rw [ew] at hc e3 z2
          rw [cOt_1] at hc
          exact h3 (W p / 2) (by omega) (by omega) ⟨hc, ⟨e3, z2⟩⟩
  · rcases key p p0 p1 with e | ⟨e, _, _⟩
    · exact absurd e hp
    · rcases key q q0 q1 with e2 | ⟨e2, _, _⟩
      · exact absurd e2 hq
      · rw [e] at hp he
        rw [e2] at hq he
        exact h6 p q p0 p1 q0 q1 hp hq he
/-- a side that is on: what is known of it; its other side is not on -/
theorem cNv.on {K L O N : Int → Int} {m j : Int} (h : cNv K L O N m) (hj : 0 ≤ j) (hc : cHas N (K 0) j) : j < 2 * K 5 ∧ cGd K L O m j ∧ ¬ cHas N (K 0) (cOt j) := by
  obtain ⟨p, p0, p1, e⟩ := hc
  rcases h.1 p p0 p1 with z | ⟨z0, z1, z2⟩
  · omega
  · rw [e] at z1 z2
    refine ⟨z1, z2, fun ⟨q, q0, q1, e2⟩ => ?_⟩
    have ho : cOt j / 2 = j / 2 ∧ cOt j ≠ j ∧ 0 ≤ cOt j := by unfold cOt; split <;> omega
    have := h.2 p q p0 p1 q0 q1 (by omega) (by omega) (by omega)
    rw [this] at e
    omega
theorem zs_mono {f g : Int → Int} : ∀ k : Nat, (∀ j, 0 ≤ j → j < (k : Int) → f j ≤ g j) → zs f (k : Int) ≤ zs g (k : Int) := by
  intro k
  induction k with
  | zero => intro _; exact Int.le_refl _
  | succ k ih =>
    intro h
    rw [show ((k + 1 : Nat) : Int) = (k : Int) + 1 by omega, zs_s (by omega), zs_s (by omega)]
    have a := ih (fun j a b => h j a (by omega))
    have b := h (k : Int) (by omega) (by omega)
    omega
theorem zs_strict {f g : Int → Int} {i : Int} (i0 : 0 ≤ i) (hi : f i + 1 ≤ g i) : ∀ k : Nat, i < (k : Int) → (∀ j, 0 ≤ j → j < (k : Int) → f j ≤ g j) → zs f (k : Int) + 1 ≤ zs g (k : Int) := by
  intro k
  induction k with
  | zero => intro h; omega
  | succ k ih =>
    intro hk h
    rw [show ((k + 1 : Nat) : Int) = (k : Int) + 1 by omega, zs_s (by omega), zs_s (by omega)]
    by_cases e : i = (k : Int)
    · have a := zs_mono k (fun j a b => h j a (by omega))
      rw [← e]
      rw [← e] at a
      omega
    · have a := ih (by omega) (fun j a b => h j a (by omega))
      have b := h (k : Int) (by omega) (by omega)
      omega
/-- the next minute -/
theorem cI.nx {K L O W N L' O' W' : Int → Int} {T m r : Int} (h : cI K L O W T m) (hk : zKV K) (hm : 0 ≤ m) (hne : ¬ ∀ j, 0 ≤ j → j < 2 * K 5 → L j = 0) (hN : N = cFl K L O W r m (K 0).toNat (cN0 K L W))
    (hL' : ∀ j, 0 ≤ j → L' j = zite (cHas N (K 0) j) (L j - 1) (L j)) (hO' : ∀ j, 0 ≤ j → O' j = zite (cHas N (K 0) j) (m + 1) (O j)) (hW' : ∀ p, 0 ≤ p → p < K 0 → W' p = N p) : cI K L' O' W' T (m + 1) := by
  have hk0 := hk.1
  have hv0 := cN0_v h
  obtain ⟨h1, h2, h3, h4, h5, h6, h7⟩ := h
  have hv : cNv K L O N m := by rw [hN]; exact cFl_v hk (fun j a b => (h1 j a b).1) h3 _ _ hv0
  have onL : ∀ j, 0 ≤ j → cHas N (K 0) j → L' j = L j - 1 ∧ O' j = m + 1 := fun j j0 q => ⟨by rw [hL' j j0, zite_t q], by rw [hO' j j0, zite_t q]⟩
  have ofL : ∀ j, 0 ≤ j → ¬ cHas N (K 0) j → L' j = L j ∧ O' j = O j := fun j j0 q => ⟨by rw [hL' j j0, zite_f q], by rw [hO' j j0, zite_f q]⟩
  have both : ∀ s, 0 ≤ s → ¬ (cHas N (K 0) (2 * s) ∧ cHas N (K 0) (2 * s + 1)) := fun s s0 q => by
    have := (hv.on (by omega) q.1).2.2
    rw [cOt_0] at this
    exact this q.2
  have hph : ∀ s, 0 ≤ s → s < K 5 → cPh K L' O' (m + 1) s ≤ cPh K L O m s := fun s s0 s1 => by
    have a1 := h1 (2 * s) (by omega) (by omega)
    have b1 := h1 (2 * s + 1) (by omega) (by omega)
    by_cases qa : cHas N (K 0) (2 * s)
    · have e := onL (2 * s) (by omega) qa
      have g := (hv.on (by omega) qa).2.1
      have e2 := ofL (2 * s + 1) (by omega) (fun z => both s s0 ⟨qa, z⟩)
      obtain ⟨g1, g2, g3⟩ := g
      rw [cOt_0] at g2 g3
      unfold cPt at g2
      unfold cPh
      rw [e.1, e.2, e2.1, e2.2]
      repeat' split
      all_goals omega
    · by_cases qb : cHas N (K 0) (2 * s + 1)
      · have e := onL (2 * s + 1) (by omega) qb
        have g := (hv.on (by omega) qb).2.1
        have e2 := ofL (2 * s) (by omega) qa
        obtain ⟨g1, g2, g3⟩ := g
        rw [cOt_1] at g2 g3
        unfold cPt at g2
        unfold cPh
        rw [e.1, e.2, e2.1, e2.2]
        repeat' split
        all_goals omega
      · have e := ofL (2 * s) (by omega) qa
        have e2 := ofL (2 * s + 1) (by omega) qb
        unfold cPh
        rw [e.1, e.2, e2.1, e2.2]
        repeat' split
        all_goals omega
  have hle : ∀ j, 0 ≤ j → j < 2 * K 5 → L' j ≤ L j := fun j j0 j1 => by
    by_cases q : cHas N (K 0) j
    · rw [(onL j j0 q).1]; omega
    · rw [(ofL j j0 q).1]; omega
  refine ⟨fun j j0 j1 => ?_, fun j j0 j1 => ?_, fun s s0 s1 q => ?_, fun j j0 j1 q => ?_, fun p p0 p1 => ?_, fun p q p0 p1 q0 q1 hp hq he => ?_, ?_⟩
  · have b := h1 j j0 j1
    by_cases q : cHas N (K 0) j
    · have g := (hv.on j0 q).2.1.1
      rw [(onL j j0 q).1]; omega
    · rw [(ofL j j0 q).1]; exact b
  · have b := h1 j j0 j1
    have c := h2 j j0 j1
    by_cases q : cHas N (K 0) j
    · have g := (hv.on j0 q).2.1.1
      rw [(onL j j0 q).1, (onL j j0 q).2]; omega
    · rw [(ofL j j0 q).1, (ofL j j0 q).2]
      exact ⟨c.1, by omega, c.2.2⟩
  · unfold cPt at q
    by_cases qa : cHas N (K 0) (2 * s)
    · have g := (hv.on (by omega) qa).2.1.2.1
      have e2 := ofL (2 * s + 1) (by omega) (fun z => both s s0 ⟨qa, z⟩)
      rw [cOt_0] at g
      rw [e2.1] at q
      exact g q.2
    · by_cases qb : cHas N (K 0) (2 * s + 1)
      · have g := (hv.on (by omega) qb).2.1.2.1
        have e2 := ofL (2 * s) (by omega) qa
        rw [cOt_1] at g
        rw [e2.1] at q
        exact g q.1
      · rw [(ofL (2 * s) (by omega) qa).1, (ofL (2 * s + 1) (by omega) qb).1] at q
        exact h3 s s0 s1 q
  · have ho : 0 ≤ cOt j ∧ cOt (cOt j) = j := by
      rcases (by omega : j % 2 = 0 ∨ j % 2 = 1) with k | k
      · have ej : j = 2 * (j / 2) := by omega
        rw [ej, cOt_0, cOt_1]; omega
      · have ej : j = 2 * (j / 2) + 1 := by omega
        rw [ej, cOt_1, cOt_0]; omega
    by_cases qj : cHas N (K 0) j
    · have g := hv.on j0 qj
      rw [(ofL (cOt j) ho.1 g.2.2).2]
      have g3 := g.2.1.2.2
      omega
    · have qo : ¬ cHas N (K 0) (cOt j) := fun z => by
        have g := (hv.on ho.1 z).2.1.2.1
        rw [ho.2] at g
        unfold cPt at q g
        rw [(ofL j j0 qj).1] at q
        exact g q
      unfold cPt at q
      rw [(ofL j j0 qj).1] at q
      rw [(ofL (cOt j) ho.1 qo).2]
      have := h4 j j0 j1 q
      omega
  · rw [hW' p p0 p1]
    rcases hv.1 p p0 p1 with z | ⟨z0, z1, z2⟩
    · exact Or.inl z
    · refine Or.inr ⟨z0, z1, ?_⟩
      rw [(onL (N p) z0 ⟨p, p0, p1, rfl⟩).1]
      have := h1 (N p) z0 z1
      omega
  · rw [hW' p p0 p1] at hp he
    rw [hW' q q0 q1] at hq he
    exact hv.2 p q p0 p1 q0 q1 hp hq he
  · have e5 : (((K 5).toNat : Nat) : Int) = K 5 := by omega
    have e10 : (((2 * K 5).toNat : Nat) : Int) = 2 * K 5 := by omega
    have s1 : zs L' (2 * K 5) ≤ zs L (2 * K 5) := by
      have q := zs_mono (f := L') (g := L) (2 * K 5).toNat (fun j a b => hle j a (by omega))
      rw [e10] at q
      exact q
    have s2 : zs (cPh K L' O' (m + 1)) (K 5) ≤ zs (cPh K L O m) (K 5) := by
      have q := zs_mono (f := cPh K L' O' (m + 1)) (g := cPh K L O m) (K 5).toNat (fun j a b => hph j a (by omega))
      rw [e5] at q
      exact q
    by_cases some : ∃ p, 0 ≤ p ∧ p < K 0 ∧ N p ≠ -1
    · obtain ⟨p, p0, p1, e⟩ := some
      have z : 0 ≤ N p ∧ N p < 2 * K 5 := by rcases hv.1 p p0 p1 with z | z; exact absurd z e; exact ⟨z.1, z.2.1⟩
      have q := zs_strict (f := L') (g := L) z.1 (by rw [(onL (N p) z.1 ⟨p, p0, p1, rfl⟩).1]; omega) (2 * K 5).toNat (by omega) (fun j a b => hle j a (by omega))
      rw [e10] at q
      omega
    · -- nothing was on: some slice waits
      have hz : ∀ p, 0 ≤ p → p < K 0 → N p = -1 := fun p p0 p1 => Classical.byContradiction fun q => some ⟨p, p0, p1, q⟩
      obtain ⟨f, hf⟩ : ∃ f, (K 0).toNat = f + 1 := ⟨(K 0).toNat - 1, by omega⟩
      rw [hN, hf] at hz
      have hi := cFl_z hk hz
      have noH : ∀ j, 0 ≤ j → ¬ cHas N (K 0) j := fun j j0 ⟨p, p0, p1, e⟩ => some ⟨p, p0, p1, by omega⟩
      obtain ⟨j, j0, j1, jL⟩ : ∃ j, 0 ≤ j ∧ j < 2 * K 5 ∧ L j ≠ 0 := Classical.byContradiction fun q => hne (fun j a b => Classical.byContradiction fun z => q ⟨j, a, b, z⟩)
      have a1 := h1 (2 * (j / 2)) (by omega) (by omega)
      have b1 := h1 (2 * (j / 2) + 1) (by omega) (by omega)
      have a2 := h2 (2 * (j / 2)) (by omega) (by omega)
      have b2 := h2 (2 * (j / 2) + 1) (by omega) (by omega)
      have hng := hi.2 (j / 2) (by omega) (by omega)
      have hsum : L (2 * (j / 2)) + L (2 * (j / 2) + 1) ≠ 0 := by
        rcases (by omega : j = 2 * (j / 2) ∨ j = 2 * (j / 2) + 1) with k | k
        · rw [k] at jL; omega
        · rw [k] at jL; omega
      have hw : O (cOt (cSd K L (j / 2))) ≠ 0 ∧ m - O (cOt (cSd K L (j / 2))) < K 1 := by
        have q : ¬ (O (cOt (cSd K L (j / 2))) = 0 ∨ K 1 ≤ m - O (cOt (cSd K L (j / 2)))) := fun z => hng ⟨fun ⟨p, p0, p1, e, _⟩ => e (hi.1 p p0 p1), hsum, z⟩
        omega
      have i3 := h3 (j / 2) (by omega) (by omega)
      have ea := ofL (2 * (j / 2)) (by omega) (noH _ (by omega))
      have eb := ofL (2 * (j / 2) + 1) (by omega) (noH _ (by omega))
      have strict : cPh K L' O' (m + 1) (j / 2) + 1 ≤ cPh K L O m (j / 2) := by
        rcases cSd_b (K := K) (L := L) (s := j / 2) with e | e
        · rw [e, cOt_0] at hw
          have i4 := h4 (2 * (j / 2)) (by omega) (by omega)
          rw [cOt_0] at i4
          have hp : cPt K L (2 * (j / 2) + 1) → cPt K L (2 * (j / 2)) := fun z => by have q := cSd_p (Or.inr z); rw [e] at q; exact q
          have hl := cSd_l (K := K) a1.1 b1.1 hsum
          rw [e] at hl
          unfold cPt at hp i3 i4
          have hb0 : L (2 * (j / 2) + 1) = 0 := by omega
          have hfull : L (2 * (j / 2)) = fL0 K (2 * (j / 2)) := by omega
          unfold cPh
          rw [ea.1, ea.2, eb.1, eb.2, if_neg (by omega), if_pos ⟨hl, hfull⟩, if_neg (by omega), if_pos ⟨hl, hfull⟩]
          omega
        · rw [e, cOt_1] at hw
          have i4 := h4 (2 * (j / 2) + 1) (by omega) (by omega)
          rw [cOt_1] at i4
          have hp : cPt K L (2 * (j / 2)) → cPt K L (2 * (j / 2) + 1) := fun z => by have q := cSd_p (Or.inl z); rw [e] at q; exact q
          have hl := cSd_l (K := K) a1.1 b1.1 hsum
          rw [e] at hl
          unfold cPt at hp i3 i4
          have ha0 : L (2 * (j / 2)) = 0 := by omega
          have hfull : L (2 * (j / 2) + 1) = fL0 K (2 * (j / 2) + 1) := by omega
          unfold cPh
          rw [ea.1, ea.2, eb.1, eb.2, if_neg (by omega), if_neg (by omega), if_pos ⟨hl, hfull⟩, if_neg (by omega), if_neg (by omega), if_pos ⟨hl, hfull⟩]
          omega
      have q := zs_strict (f := cPh K L' O' (m + 1)) (g := cPh K L O m) (i := j / 2) (by omega) strict (K 5).toNat (by omega) (fun j a b => hph j a (by omega))
      rw [e5] at q
      omega
/-- at the beginning -/
theorem cI.s0 {K L O W : Int → Int} (hk : zKV K) (hL : ∀ j, 0 ≤ j → j < 16 → L j = fL0 K j) (hO : ∀ j, 0 ≤ j → j < 16 → O j = 0) (hW : ∀ p, 0 ≤ p → p < 4 → W p = -1) : cI K L O W 392 0 := by
  have hk0 := hk.1
  refine ⟨fun j a b => ?_, fun j a b => ?_, fun s a b q => ?_, fun j a b q => ?_, fun p a b => Or.inl (hW p a (by omega)), fun p q a b c d e _ _ => absurd (hW p a (by omega)) e, ?_⟩
  · rw [hL j a (by omega)]
    exact ⟨(fL0_b hk a (by omega)).1, Int.le_refl _⟩
  · rw [hO j a (by omega)]
    exact ⟨Int.le_refl _, Int.le_refl _, fun q => absurd rfl q⟩
  · have z := q.1.2
    rw [hL _ (by omega) (by omega)] at z
    omega
  · have z := q.2
    rw [hL _ (by omega) (by omega)] at z
    omega
  · have a : zs L (2 * K 5) ≤ (2 * K 5) * 20 := (zs_b (B := 20) (by omega) (fun j a b => by rw [hL j a (by omega)]; exact fL0_b hk a (by omega))).2
    have b : zs (cPh K L O 0) (K 5) ≤ K 5 * 9 := (zs_b (B := 9) (by omega) (fun s a b => by
      unfold cPh
      rw [hO (2 * s) (by omega) (by omega), hO (2 * s + 1) (by omega) (by omega)]
      repeat' split
      all_goals omega)).2
    omega
