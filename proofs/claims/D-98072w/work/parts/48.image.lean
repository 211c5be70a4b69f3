/-! IMAGES: the class's cells against the block -/
/-- the block behind image(k): what is told now is copied -/
def uImg (A : zMm) (k : Int) : zMm := zup (zfl (zfl A 4 (2301 * k) (2301 * k + 2301) (fun j => A 2 (j - 2301 * k))) 8 (21 * k) (21 * k + 21) (fun j => A 6 (j - 21 * k))) 9 k 1
/-- the block behind restore(k) -/
def uRes (A : zMm) (k : Int) : zMm := zup (zfl (zfl A 2 0 2301 (fun j => A 4 (2301 * k + j))) 6 0 21 (fun j => A 8 (21 * k + j))) 0 1022 0
theorem uImg_o {A : zMm} {k o j : Int} (h : o ≠ 4 ∧ o ≠ 8 ∧ o ≠ 9) : uImg A k o j = A o j := by
  unfold uImg
  rw [zup_ne (by omega), zfl_ne (by omega), zfl_ne (by omega)]
theorem uImg_9 {A : zMm} {k j : Int} : uImg A k 9 j = if j = k then 1 else A 9 j := by
  unfold uImg zup
  by_cases e : j = k
  · rw [if_pos ⟨rfl, e⟩, if_pos e]
  · rw [if_neg (by omega), if_neg e, zfl_ne (by omega), zfl_ne (by omega)]
theorem uImg_4 {A : zMm} {k i j : Int} (h0 : 0 ≤ j) (h1 : j < 2301) : uImg A k 4 (2301 * i + j) = if i = k then A 2 j else A 4 (2301 * i + j) := by
  unfold uImg
  rw [zup_ne (by omega), zfl_ne (by omega)]
  unfold zfl
  by_cases e : i = k
  · rw [if_pos ⟨rfl, by omega, by omega⟩, if_pos e]
    show A 2 (2301 * i + j - 2301 * k) = A 2 j
    congr 1
    omega
  · rw [if_neg (by omega), if_neg e]
theorem uImg_8 {A : zMm} {k i j : Int} (h0 : 0 ≤ j) (h1 : j < 21) : uImg A k 8 (21 * i + j) = if i = k then A 6 j else A 8 (21 * i + j) := by
  unfold uImg
  rw [zup_ne (by omega)]
  unfold zfl
  by_cases e : i = k
  · rw [if_pos ⟨rfl, by omega, by omega⟩, if_pos e]
    show A 6 (21 * i + j - 21 * k) = A 6 j
    congr 1
    omega
  · rw [if_neg (by omega), if_neg e, if_neg (by omega)]
theorem yEq.img {m : zMm} {b k : Int} {A : zMm} (h : yEq m b A) : yEq (zup (zfl (zfl m (b + 4) (2301 * k) (2301 * k + 2301) (fun j => m (b + 2) (j - 2301 * k))) (b + 8) (21 * k) (21 * k + 21) (fun j => m (b + 6) (j - 21 * k))) (b + 9) k 1) b (uImg A k) :=
  ((h.fl (by omega) (fun j _ _ => h 2 _ (by omega) (by omega))).fl (by omega) (fun j _ _ => h 6 _ (by omega) (by omega))).up (by omega)
theorem yEq.res {m : zMm} {b k : Int} {A : zMm} (h : yEq m b A) : yEq (zup (zfl (zfl m (b + 2) 0 2301 (fun j => m (b + 4) (2301 * k + j))) (b + 6) 0 21 (fun j => m (b + 8) (21 * k + j))) b 1022 0) b (uRes A k) :=
  ((h.fl (by omega) (fun j _ _ => h 4 _ (by omega) (by omega))).fl (by omega) (fun j _ _ => h 8 _ (by omega) (by omega))).up0
/-- the plan p now holds the image k -/
theorem rel.img {S S2 : zS} {m m2 : zMm} {x p k : Int} {A : zMm} (h : rel S m x A) (hb : A 0 1023 = 1) (hS : zGr S S2) (hk : 0 ≤ k ∧ k < 2) (hp0 : 0 ≤ p) (hp : x + 91 ≤ p) (hpp : zPR S2 m2 p (A 2 58) (aGo (A 2) 58))
    (hm : ∀ i j, 0 ≤ i → i < 54 → ¬ (51 ≤ i ∧ i ≤ 53) → m2 (x + i) j = m (x + i) j) (hf : ∀ a, x + 91 ≤ a → zk S a ≠ 0 → (a < p ∨ p + 6 ≤ a) → ∀ j, m2 a j = m a j)
    (h51 : ∀ i, 0 ≤ i → i < 2 → m2 (x + 51) i = if i = k then m x 7 else m (x + 51) i) (h52 : ∀ i, 0 ≤ i → i < 2 → m2 (x + 52) i = if i = k then p else m (x + 52) i) (h53 : ∀ i, 0 ≤ i → i < 2 → m2 (x + 53) i = if i = k then m x 38 else m (x + 53) i)
    (hn : ∀ i, 0 ≤ i → i < 2 → i ≠ k → m (x + 52) i ≠ p) (hu : ∀ q, 0 ≤ q → q < 8 → m (x + 29) q ≠ p) : rel S2 m2 x (uImg A k) := by
  have hKp : ∀ q, zKit S q → x + 91 ≤ q ∨ q = x + 5 → ∀ a, q ≤ a → a < q + 9 → ∀ j, m2 a j = m a j := fun q hq hq2 a a0 a1 j => by
    rcases hq2 with z | z
    · have ap := hpp.1.apK (hq.gr hS)
      exact hf a (by omega) (hq.kc a a0 a1).1 (by omega) j
    · have e := hm (a - x) j (by omega) (by omega) (by omega)
      rw [show x + (a - x) = a by omega] at e
      exact e
  have hcc : ∀ a, 12 ≤ zk S a → zk S a ≤ 16 → ∀ j, m2 a j = m a j := fun a h1 h2 j => by
    refine hf a (h.wd.2 a h1 h2) (by omega) ?_ j
    refine Classical.byContradiction fun q => ?_
    have hk2 := (hS.2.1 a (by omega)).1
    have hs : a = p ∨ a = p + 1 ∨ a = p + 2 ∨ a = p + 3 ∨ a = p + 4 ∨ a = p + 5 := by omega
    have k0 := hpp.1.k
    have k1 := hpp.1.a300
    have k2 := hpp.1.a301
    have k3 := hpp.1.a302
    have k4 := hpp.1.a303
    have k5 := hpp.1.a304
    have hka : 12 ≤ zk S2 a ∧ zk S2 a ≤ 16 := by rw [hk2]; exact ⟨h1, h2⟩
    rcases hs with hs | hs | hs | hs | hs | hs <;> (rw [hs] at hka; omega)
  have er : ∀ o : Int, (o ≠ 4 ∧ o ≠ 8 ∧ o ≠ 9) → uImg A k o = A o := fun o ho => funext fun j => uImg_o ho
  have e0 := er 0 (by omega)
  have e1 := er 1 (by omega)
  have e2 := er 2 (by omega)
  have e5 := er 5 (by omega)
  have e6 := er 6 (by omega)
  have e11 := er 11 (by omega)
  have e29 := er 29 (by omega)
  have e32 := er 32 (by omega)
  have h0 : ∀ j, m2 x j = m x j := fun j => by
    have q := hm 0 j (by omega) (by omega) (by omega)
    rw [Int.add_zero] at q
    exact q
  have hbl : ∀ a, x + 5 ≤ a → a < x + 20 → ∀ j, m2 a j = m a j := fun a a0 a1 j => by
    have q := hm (a - x) j (by omega) (by omega) (by omega)
    rw [show x + (a - x) = a by omega] at q
    exact q
  have h29 : ∀ j, m2 (x + 29) j = m (x + 29) j := fun j => hm 29 j (by omega) (by omega) (by omega)
  have hPp : ∀ q, zPlan S q → x + 91 ≤ q → q ≠ p → ∀ a, q ≤ a → a < q + 6 → ∀ j, m2 a j = m a j := fun q hq hq2 hq3 a a0 a1 j => by
    have ap := (hq.gr hS).ap hpp.1 hq3
    exact hf a (by omega) (hq.kc a a0 a1).1 (by omega) j
  obtain ⟨r1, r2, r3, r4⟩ := h.un
  obtain ⟨i1, i2, i3⟩ := h.im
  have hun : rUn S2 m2 x (A 0 1022) (A 5) := by
    refine ⟨(h0 17).trans r1, fun q q0 q1 => ?_, fun q q0 q1 => ?_, fun q r q0 q1 q2 => by rw [h29, h29]; exact r4 q r q0 q1 q2⟩
    · rw [h29]
      rcases r2 q q0 q1 with z | ⟨z, z2⟩
      · exact Or.inl z
      · exact Or.inr ⟨z, z2.gr hS⟩
    · rw [h29]
      obtain ⟨z, z2⟩ := r3 q q0 q1
      exact ⟨z, z2.fr hS (hPp _ z2.1 z (hu q q0 (by have := h.vun.1.2; omega)))⟩
  have him : rIm S2 m2 x (uImg A k 9) (uImg A k 4) (uImg A k 8) := by
    refine ⟨fun i i0 i1' => ?_, ?_, fun q i q0 q1 i0 i1' => ?_⟩
    · rw [uImg_9, h51 i i0 i1', h52 i i0 i1', h53 i i0 i1']
      by_cases e : i = k
      · rw [if_pos e, if_pos e, if_pos e, if_pos e]
        refine Or.inr ⟨rfl, hp, hpp.gc ?_ (fun k' w k0 k1 w0 w1 => ?_), ?_, ?_⟩
        · rw [uImg_4 (by omega) (by omega), if_pos e]
        · have hn9 := h.vpl.2.1
          show uImg A k 4 (2301 * i + 58 + 1 + 5 * k' + w) = A 2 (58 + 1 + 5 * k' + w)
          rw [show 2301 * i + 58 + 1 + 5 * k' + w = 2301 * i + (58 + 1 + 5 * k' + w) by omega, uImg_4 (by omega) (by omega), if_pos e]
        · have hki : rKi S2 m2 x (aK (A 0 1023) (A 2)) (A 6) := h.ki.fr hS (h0 7) (hKp _ h.ki.2.1.1 (by have := h.ki.1; omega))
          have hki2 := hki.kc (K' := fun j => uImg A k 4 (2301 * i + j)) (N' := fun j => uImg A k 8 (21 * i + j)) (fun j j0 j1 => by
            show uImg A k 4 (2301 * i + j) = _
            rw [uImg_4 (by omega) (by omega), if_pos e]
            unfold aK
            rw [if_neg (by omega)]) (fun j j0 j1 => by
            show uImg A k 8 (21 * i + j) = _
            have := h.vki.1.1
            rw [uImg_8 (by omega) (by omega), if_pos e])
          unfold rKi at hki2
          rw [h0] at hki2
          exact hki2
        · have hse : rSe S2 m2 x (A 2) := h.se.fr hS (h0 38) hcc
          unfold rSe at hse
          rw [h0] at hse
          refine hse.rc (fun j j0 j1 => ?_)
          rw [show 2301 * i + 58 + j = 2301 * i + (58 + j) by omega, uImg_4 (by omega) (by omega), if_pos e]
      · rw [if_neg e, if_neg e, if_neg e, if_neg e]
        rcases i1 i i0 i1' with z | ⟨z1, z2, z3, z4, z5⟩
        · exact Or.inl z
        · have hv := h.vim i i0 i1'
          have hn9 : A 4 (2301 * i + 58) ≤ 400 := by
            rcases hv with q | ⟨_, _, _, q⟩
            · omega
            · exact q.2.1
          have hK9 : A 4 (2301 * i + 5) ≤ 8 := by
            rcases hv with q | ⟨_, q, _, _⟩
            · omega
            · have q5 := q.1
              dsimp only at q5
              omega
          refine Or.inr ⟨z1, z2, (z3.fr hS (hPp _ z3.1 z2 (hn i i0 i1' e))).gc ?_ (fun k' w k0 k1 w0 w1 => ?_), ?_, ?_⟩
          · rw [uImg_4 (by omega) (by omega), if_neg e]
          · show uImg A k 4 (2301 * i + 58 + 1 + 5 * k' + w) = A 4 (2301 * i + 58 + 1 + 5 * k' + w)
            rw [show 2301 * i + 58 + 1 + 5 * k' + w = 2301 * i + (58 + 1 + 5 * k' + w) by omega, uImg_4 (by omega) (by omega), if_neg e]
          · have hka := z4.fr hS (hKp _ z4.2.1.1 (by have := z4.1; omega))
            refine ⟨hka.1, hka.2.1.kc (fun j j0 j1 => ?_), fun j j0 j1 => ?_⟩
            · show uImg A k 4 (2301 * i + j) = A 4 (2301 * i + j)
              rw [uImg_4 (by omega) (by omega), if_neg e]
            · have j1' : j < uImg A k 4 (2301 * i + 5) := j1
              rw [uImg_4 (by omega) (by omega), if_neg e] at j1'
              show m2 (m (x + 51) i + 1) j = zc (uImg A k 8 (21 * i + j))
              rw [uImg_8 (by omega) (by omega), if_neg e]
              exact hka.2.2 j j0 j1'
          · refine (z5.fr hS hcc).rc (fun j j0 j1 => ?_)
            rw [show 2301 * i + 58 + j = 2301 * i + (58 + j) by omega, uImg_4 (by omega) (by omega), if_neg e]
    · rw [h52 0 (by omega) (by omega), h52 1 (by omega) (by omega)]
      by_cases e : (0 : Int) = k
      · rw [if_pos e, if_neg (by omega)]
        exact Or.inr (fun z => hn 1 (by omega) (by omega) (by omega) z.symm)
      · rw [if_neg e]
        by_cases f : (1 : Int) = k
        · rw [if_pos f]
          exact Or.inr (hn 0 (by omega) (by omega) (by omega))
        · omega
    · rw [h29, h52 i i0 i1']
      by_cases e : i = k
      · rw [if_pos e]
        exact Or.inr (hu q q0 q1)
      · rw [if_neg e]
        exact i3 q i q0 q1 i0 i1'
  have hvi : vIm (uImg A k 9) (uImg A k 4) (uImg A k 8) := by
    intro i i0 i1'
    rw [uImg_9]
    by_cases e : i = k
    · rw [if_pos e]
      have hk9 := h.vki
      have e4 : ∀ j, 0 ≤ j → j < 2301 → uImg A k 4 (2301 * i + j) = A 2 j := fun j j0 j1 => by rw [uImg_4 j0 j1, if_pos e]
      have eK : ∀ j, aK (A 0 1023) (A 2) j = A 2 j := fun j => by unfold aK; rw [if_neg (by omega)]
      refine Or.inr ⟨rfl, hk9.1.kc (fun j j0 j1 => by rw [e4 j j0 (by omega), eK]), fun j j0 j1 => ?_, h.vpl.gc (e4 58 (by omega) (by omega)) (fun k' w k0 k1 w0 w1 => ?_)⟩
      · rw [e4 5 (by omega) (by omega)] at j1
        have := hk9.1.1
        simp only [eK] at this
        rw [uImg_8 (by omega) (by omega), if_pos e]
        exact hk9.2 j j0 (by rw [eK]; exact j1)
      · have hn9 := h.vpl.2.1
        show uImg A k 4 (2301 * i + 58 + 1 + 5 * k' + w) = A 2 (58 + 1 + 5 * k' + w)
        rw [show 2301 * i + 58 + 1 + 5 * k' + w = 2301 * i + (58 + 1 + 5 * k' + w) by omega]
        exact e4 _ (by omega) (by omega)
    · rw [if_neg e]
      have e4 : ∀ j, 0 ≤ j → j < 2301 → uImg A k 4 (2301 * i + j) = A 4 (2301 * i + j) := fun j j0 j1 => by rw [uImg_4 j0 j1, if_neg e]
      rcases h.vim i i0 i1' with z | ⟨z1, z2, z3, z4⟩
      · exact Or.inl z
      · refine Or.inr ⟨z1, z2.kc (fun j j0 j1 => e4 j j0 (by omega)), fun j j0 j1 => ?_, z4.gc (e4 58 (by omega) (by omega)) (fun k' w k0 k1 w0 w1 => ?_)⟩
        · rw [e4 5 (by omega) (by omega)] at j1
          have q5 := z2.1
          dsimp only at q5
          rw [uImg_8 (by omega) (by omega), if_neg e]
          exact z3 j j0 j1
        · have hn9 := z4.2.1
          show uImg A k 4 (2301 * i + 58 + 1 + 5 * k' + w) = A 4 (2301 * i + 58 + 1 + 5 * k' + w)
          rw [show 2301 * i + 58 + 1 + 5 * k' + w = 2301 * i + (58 + 1 + 5 * k' + w) by omega]
          exact e4 _ (by omega) (by omega)
  refine ⟨h.wd.gr hS, h.sh.gr hS, ?_, ?_, ?_, ?_, him, ?_, ?_, ?_, ?_, ?_, ?_, h.mo.fr hS (h0 30), ?_, ?_, ?_, ?_, ?_, ?_, hvi, ?_, ?_, ?_⟩
  · rw [e0, e1]
    exact h.tp.fr (h0 1) (fun j => hm 1 j (by omega) (by omega) (by omega))
  · rw [e0, e2, e6]
    exact h.ki.fr hS (h0 7) (hKp _ h.ki.2.1.1 (by have := h.ki.1; omega))
  · rw [e2]
    exact h.pl.fr hS (fun a a0 a1 => hbl a (by omega) a1)
  · rw [e0, e5]
    exact hun
  · rw [e2]
    exact h.se.fr hS (h0 38) hcc
  · rw [e0, e11]
    exact h.tx.fr (h0 15) (fun j => hm 28 j (by omega) (by omega) (by omega))
  · rw [e0, e29]
    exact h.sv.fr (h0 32) (fun j => hm 45 j (by omega) (by omega) (by omega))
  · rw [e0, e32]
    exact h.pn.fr (h0 35) (fun j => hm 46 j (by omega) (by omega) (by omega))
  · rw [e0]
    exact (h0 12).trans h.fa
  · rw [e0]
    exact (h0 13).trans h.wy
  · exact h.cs.fr (hm 26 400 (by omega) (by omega) (by omega)) (hm 27 400 (by omega) (by omega) (by omega)) (hm 48 400 (by omega) (by omega) (by omega)) (fun j => hm 35 j (by omega) (by omega) (by omega))
  · rw [e0, e1]
    exact h.vtp
  · rw [e0, e2]
    exact h.vbg
  · rw [e0, e2, e6]
    exact h.vki
  · rw [e2]
    exact h.vpl
  · rw [e0, e5]
    exact h.vun
  · rw [e0, e11]
    exact h.vtx
  · rw [e0]
    exact h.vsv
  · rw [e0]
    exact h.vpn
