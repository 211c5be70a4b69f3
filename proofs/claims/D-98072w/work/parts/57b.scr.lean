/-! SCRATCH: words of the model's block that no one reads behind the call -/
def zUw (o j : Int) : Prop := (o = 1 ∨ o = 2 ∨ o = 4 ∨ o = 5 ∨ o = 6 ∨ o = 8 ∨ o = 9 ∨ o = 11 ∨ o = 29 ∨ o = 32) ∨ (o = 0 ∧ (j = 1002 ∨ j = 1010 ∨ j = 1022 ∨ j = 1023 ∨ j = 1026 ∨ j = 1029 ∨ j = 1049 ∨ j = 1053))
theorem zUw.c {o : Int} (h : o = 1 ∨ o = 2 ∨ o = 4 ∨ o = 5 ∨ o = 6 ∨ o = 8 ∨ o = 9 ∨ o = 11 ∨ o = 29 ∨ o = 32) (j : Int) : zUw o j := Or.inl h
theorem zUw.f {j : Int} (h : j = 1002 ∨ j = 1010 ∨ j = 1022 ∨ j = 1023 ∨ j = 1026 ∨ j = 1029 ∨ j = 1049 ∨ j = 1053) : zUw 0 j := Or.inr ⟨rfl, h⟩
theorem zUw.r {o j : Int} (h : zUw o j) : 0 ≤ o ∧ o < 36 := by unfold zUw at h; omega
/-- only scratch changes -/
def zSc (b : Int) (m m2 : zMm) : Prop := ∀ a j, (a < b ∨ b + 36 ≤ a ∨ zUw (a - b) j) → m2 a j = m a j
theorem zSc.rf {b : Int} {m : zMm} : zSc b m m := fun _ _ _ => rfl
theorem zSc.tr {b : Int} {m m2 m3 : zMm} (h : zSc b m m2) (h2 : zSc b m2 m3) : zSc b m m3 := fun a j q => (h2 a j q).trans (h a j q)
theorem zSc.up {b o i v : Int} {m m2 : zMm} (h : zSc b m m2) (h0 : 0 ≤ o ∧ o < 36) (h1 : ¬ zUw o i) : zSc b m (zup m2 (b + o) i v) := fun a j q => by
  rw [zup_ne (fun e => by
    obtain ⟨e1, e2⟩ := e
    subst e1 e2
    rw [show b + o - b = o by omega] at q
    rcases q with q | q | q
    · omega
    · omega
    · exact h1 q)]
  exact h a j q
theorem zSc.up0 {b i v : Int} {m m2 : zMm} (h : zSc b m m2) (h1 : ¬ zUw 0 i) : zSc b m (zup m2 b i v) := by
  have q := zSc.up (v := v) (o := 0) h ⟨by omega, by omega⟩ h1
  rw [Int.add_zero] at q
  exact q
theorem zSc.fl {b o l u : Int} {f : Int → Int} {m m2 : zMm} (h : zSc b m m2) (h0 : 0 ≤ o ∧ o < 36) (h1 : ∀ i, ¬ zUw o i) : zSc b m (zfl m2 (b + o) l u f) := fun a j q => by
  rw [zfl_ne (fun e => by
    have e := e.1
    subst e
    rw [show b + o - b = o by omega] at q
    rcases q with q | q | q
    · omega
    · omega
    · exact h1 j q)]
  exact h a j q
theorem zSc.inn {b : Int} {m m2 : zMm} (h : zSc b m m2) : zIn b m m2 := fun a ha j => h a j (by omega)
theorem zSc.at {b o j : Int} {m m2 : zMm} (h : zSc b m m2) (hs : zUw o j) : m2 (b + o) j = m (b + o) j := h _ j (by rw [show b + o - b = o by omega]; exact Or.inr (Or.inr hs))
theorem zSc.at0 {b j : Int} {m m2 : zMm} (h : zSc b m m2) (hs : zUw 0 j) : m2 b j = m b j := h _ j (by rw [show b - b = 0 by omega]; exact Or.inr (Or.inr hs))
theorem zSc.row {b : Int} {m m2 : zMm} (h : zSc b m m2) : ∀ j, m2 (b + 2) j = m (b + 2) j := fun j => h.at (zUw.c (by omega) j)
/-- the block says A where it is read -/
def yEw (m : zMm) (b : Int) (A : zMm) : Prop := ∀ o j, zUw o j → m (b + o) j = A o j
theorem yEq.w {m : zMm} {b : Int} {A : zMm} (h : yEq m b A) : yEw m b A := fun o j q => h o j q.r.1 q.r.2
theorem yEw.sc {m m2 : zMm} {b : Int} {A : zMm} (h : yEw m b A) (hs : zSc b m m2) : yEw m2 b A := fun o j q => by rw [hs.at q]; exact h o j q
theorem zIn.tr {b : Int} {m m2 m3 : zMm} (h : zIn b m m2) (h2 : zIn b m2 m3) : zIn b m m3 := fun a q j => (h2 a q j).trans (h a q j)
theorem aKf {A B : zMm} (h : A 0 1023 = B 0 1023) (h2 : A 2 = B 2) : aK (A 0 1023) (A 2) = aK (B 0 1023) (B 2) := by rw [h, h2]
/-- the class's cells say A, and B that says the same where it is read -/
theorem rel.sm {S : zS} {m : zMm} {x : Int} {A B : zMm} (h : rel S m x A) (e : ∀ o j, zUw o j → B o j = A o j) : rel S m x B := by
  have c : ∀ o, (o = 1 ∨ o = 2 ∨ o = 4 ∨ o = 5 ∨ o = 6 ∨ o = 8 ∨ o = 9 ∨ o = 11 ∨ o = 29 ∨ o = 32) → B o = A o := fun o ho => funext fun j => e o j (zUw.c ho j)
  have f : ∀ j, (j = 1002 ∨ j = 1010 ∨ j = 1022 ∨ j = 1023 ∨ j = 1026 ∨ j = 1029 ∨ j = 1049 ∨ j = 1053) → B 0 j = A 0 j := fun j hj => e 0 j (zUw.f hj)
  unfold rel aVd at h ⊢
  rw [c 1 (by omega), c 2 (by omega), c 4 (by omega), c 5 (by omega), c 6 (by omega), c 8 (by omega), c 9 (by omega), c 11 (by omega), c 29 (by omega), c 32 (by omega),
    f 1002 (by omega), f 1010 (by omega), f 1022 (by omega), f 1023 (by omega), f 1026 (by omega), f 1029 (by omega), f 1049 (by omega), f 1053 (by omega)]
  exact h
/-- a step where the model leaves scratch behind -/
theorem lwI.stepw {S S1 : zS} {m m1 m2 : zMm} {x : Int} {A2 : zMm} (h : lwI S m x) (hg : zGr S S1) (hr : rel S1 m1 x A2) (hi : zIn (x + 54) m1 m2) (he : yEw m2 (x + 54) A2) : lwI S1 m2 x :=
  ⟨h.1, h.2.1.gr hg, ⟨(hg.2.1 (x + 90) (by rw [h.2.2.1.1]; omega)).1.trans h.2.2.1.1, (hg.2.1 (x + 90) (by rw [h.2.2.1.1]; omega)).2.1.trans h.2.2.1.2⟩, (hr.inn hi).sm (fun o j q => by
    unfold zbk
    rw [if_pos q.r]
    exact he o j q)⟩
/-- what a method of the model leaves: the answer, the world, its block alone, where it is read A2 -/
def yPo (S : zS) (m : zMm) (b : Int) (v : Option Value) (A2 : zMm) : zQt := fun v' S' m' => v' = v ∧ S' = S ∧ zIn b m m' ∧ yEw m' b A2
/-- the same where only scratch changes -/
def ySo (S : zS) (m : zMm) (b : Int) (v : Option Value) : zQt := fun v' S' m' => v' = v ∧ S' = S ∧ zSc b m m'
