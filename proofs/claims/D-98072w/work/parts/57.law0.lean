/-! ONE STEP OF THE LAW: the class's method, then the model's -/
/-- the model's block as it lies in the memory -/
def zbk (m : zMm) (b : Int) : zMm := fun o j => if 0 ≤ o ∧ o < 36 then m (b + o) j else 0
theorem zbk_eq {m : zMm} {b : Int} : yEq m b (zbk m b) := fun o j h0 h1 => by
  unfold zbk
  rw [if_pos ⟨h0, h1⟩]
theorem zbk_o {m m2 : zMm} {x : Int} (h : zOut x m m2) : zbk m2 (x + 54) = zbk m (x + 54) := by
  funext o j
  unfold zbk
  split
  · exact h _ (by omega) (by omega) j
  · rfl
/-- only the model's block changes -/
def zIn (b : Int) (m m2 : zMm) : Prop := ∀ a, a < b ∨ b + 36 ≤ a → ∀ j, m2 a j = m a j
theorem zIn.rf {b : Int} {m : zMm} : zIn b m m := fun _ _ _ => rfl
theorem zIn.up {b o i v : Int} {m m2 : zMm} (h : zIn b m m2) (h0 : 0 ≤ o) (h1 : o < 36) : zIn b m (zup m2 (b + o) i v) := fun a ha j => by
  rw [zup_ne (by omega)]
  exact h a ha j
theorem zIn.up0 {b i v : Int} {m m2 : zMm} (h : zIn b m m2) : zIn b m (zup m2 b i v) := fun a ha j => by
  rw [zup_ne (by omega)]
  exact h a ha j
theorem zIn.fl {b o l u : Int} {f : Int → Int} {m m2 : zMm} (h : zIn b m m2) (h0 : 0 ≤ o) (h1 : o < 36) : zIn b m (zfl m2 (b + o) l u f) := fun a ha j => by
  rw [zfl_ne (by omega)]
  exact h a ha j
theorem zIn.lay {b : Int} {m m2 : zMm} (h : zIn b m m2) : zIn b m (ylaid m2 b) := fun a ha j => by
  rw [ylaid_o (by omega) (by omega)]
  exact h a ha j
theorem zIn.snap {b : Int} {m m2 : zMm} (h : zIn b m m2) : zIn b m (ysnap m2 b) := fun a ha j => by
  rw [ysnap_f (by omega) (by omega)]
  exact h a ha j
theorem rel.inn {S : zS} {m m2 : zMm} {x : Int} {A : zMm} (h : rel S m x A) (hi : zIn (x + 54) m m2) : rel S m2 x A :=
  h.set_no zGr.rf (fun k j _ _ _ _ => hi _ (by omega) j) (fun a a0 _ j => hi a (by omega) j) (fun _ _ _ => rfl) trivial
theorem rel.bk {S : zS} {m : zMm} {x : Int} {A : zMm} (h : rel S m x A) (he : yEq m (x + 54) A) : rel S m x (zbk m (x + 54)) := by
  have e : ∀ o, 0 ≤ o → o < 36 → zbk m (x + 54) o = A o := fun o h0 h1 => funext fun j => by
    unfold zbk
    rw [if_pos ⟨h0, h1⟩]
    exact he o j h0 h1
  have e0 := e 0 (by omega) (by omega)
  have e1 := e 1 (by omega) (by omega)
  have e2 := e 2 (by omega) (by omega)
  have e4 := e 4 (by omega) (by omega)
  have e5 := e 5 (by omega) (by omega)
  have e6 := e 6 (by omega) (by omega)
  have e8 := e 8 (by omega) (by omega)
  have e9 := e 9 (by omega) (by omega)
  have e11 := e 11 (by omega) (by omega)
  have e29 := e 29 (by omega) (by omega)
  have e32 := e 32 (by omega) (by omega)
  unfold rel aVd at h ⊢
  rw [e0, e1, e2, e4, e5, e6, e8, e9, e11, e29, e32]
  exact h
/-- what holds at the law's loop -/
def lwI (S : zS) (m : zMm) (x : Int) : Prop := 0 ≤ x ∧ zMod S (x + 54) ∧ (zk S (x + 90) = 102 ∧ zn S (x + 90) = 1) ∧ rel S m x (zbk m (x + 54))
theorem rel.thr {S : zS} {m : zMm} {x v : Int} {A : zMm} (h : rel S m x A) : rel S m x (zup A 0 1000 v) := by
  have e : ∀ o, o ≠ 0 → zup A 0 1000 v o = A o := fun o ho => zup_fn ho
  unfold rel aVd at h ⊢
  rw [e 1 (by omega), e 2 (by omega), e 4 (by omega), e 5 (by omega), e 6 (by omega), e 8 (by omega), e 9 (by omega), e 11 (by omega), e 29 (by omega), e 32 (by omega)]
  simp (disch := decide) only [zup_nj]
  exact h
/-- a step: the class's method led to S1, m1 with the block A2, the model's to m2 that says A2 -/
theorem lwI.step {S S1 : zS} {m m1 m2 : zMm} {x : Int} {A2 : zMm} (h : lwI S m x) (hg : zGr S S1) (hr : rel S1 m1 x A2) (hi : zIn (x + 54) m1 m2) (he : yEq m2 (x + 54) A2) : lwI S1 m2 x :=
  ⟨h.1, h.2.1.gr hg, ⟨(hg.2.1 (x + 90) (by rw [h.2.2.1.1]; omega)).1.trans h.2.2.1.1, (hg.2.1 (x + 90) (by rw [h.2.2.1.1]; omega)).2.1.trans h.2.2.1.2⟩, (hr.inn hi).bk he⟩
