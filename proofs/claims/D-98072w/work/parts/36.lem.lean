/-! CHANGES OF THE BLOCK AND OF THE CLASS'S CELLS -/
theorem zup_zup {m : zMm} {a i v w : Int} : zup (zup m a i v) a i w = zup m a i w := by
  funext b j
  unfold zup
  split <;> simp [*]
theorem zup_fn {A : zMm} {a i v o : Int} (h : o ≠ a) : zup A a i v o = A o := funext fun j => zup_ne (fun q => h q.1)
theorem zup_nj {A : zMm} {a i v o j : Int} (h : j ≠ i) : zup A a i v o j = A o j := zup_ne (fun q => h q.2)
theorem zmulb {a b A B : Int} (h0 : 0 ≤ a) (h1 : a ≤ A) (h2 : 0 ≤ b) (h3 : b ≤ B) : 0 ≤ a * b ∧ a * b ≤ A * B := ⟨Int.mul_nonneg h0 h2, Int.mul_le_mul h1 h3 h2 (Int.le_trans h0 h1)⟩
theorem yEq.up {m : zMm} {b o i v : Int} {A : zMm} (h : yEq m b A) (h0 : 0 ≤ o) : yEq (zup m (b + o) i v) b (zup A o i v) := fun o' j h1 h2 => by
  unfold zup
  by_cases q : o' = o ∧ j = i
  · rw [if_pos ⟨by omega, q.2⟩, if_pos q]
  · rw [if_neg (by omega), if_neg q]
    exact h o' j h1 h2
theorem yEq.up0 {m : zMm} {b i v : Int} {A : zMm} (h : yEq m b A) : yEq (zup m b i v) b (zup A 0 i v) := by
  have q := h.up (o := 0) (i := i) (v := v) (by omega)
  rw [Int.add_zero] at q
  exact q
theorem yEq.at {m : zMm} {b j : Int} {A : zMm} (h : yEq m b A) : m b j = A 0 j := by
  have q := h 0 j (by omega) (by omega)
  rw [Int.add_zero] at q
  exact q
theorem yEq.fl {m : zMm} {b o l u : Int} {A : zMm} {f f' : Int → Int} (h : yEq m b A) (h0 : 0 ≤ o) (hf : ∀ j, l ≤ j → j < u → f j = f' j) : yEq (zfl m (b + o) l u f) b (zfl A o l u f') := fun o' j h1 h2 => by
  unfold zfl
  by_cases q : o' = o ∧ l ≤ j ∧ j < u
  · rw [if_pos ⟨by omega, q.2⟩, if_pos q, hf j q.2.1 q.2.2]
  · rw [if_neg (by omega), if_neg q]
    exact h o' j h1 h2
/-- the block behind lay() -/
def uLay (A : zMm) : zMm := if A 0 1023 = 0 then (fun o j => if o = 2 ∧ 0 ≤ j ∧ j < 58 then aK0 j else if o = 0 ∧ j = 1023 then 1 else A o j) else A
theorem yEq.lay {m : zMm} {b : Int} {A : zMm} (h : yEq m b A) : yEq (ylaid m b) b (uLay A) := fun o j h1 h2 => by
  unfold ylaid uLay
  rw [h.at]
  by_cases q : A 0 1023 = 0
  · rw [if_pos q, if_pos q]
    unfold yplain zup
    by_cases q1 : o = 2 ∧ 0 ≤ j ∧ j < 58
    · rw [if_pos ⟨by omega, q1.2⟩, if_pos q1]
    · rw [if_neg (by omega), if_neg q1]
      by_cases q2 : o = 0 ∧ j = 1023
      · rw [if_pos ⟨by omega, q2.2⟩, if_pos q2]
      · rw [if_neg (by omega), if_neg q2]
        exact h o j h1 h2
  · rw [if_neg q, if_neg q]
    exact h o j h1 h2
theorem uLay_bg {A : zMm} (hV : vBg (A 0 1023) (A 2)) : uLay A 0 1023 = 1 := by
  unfold uLay
  rcases hV with q | ⟨q, _⟩
  · rw [if_neg (by omega)]
    exact q
  · rw [if_pos q, if_neg (by omega), if_pos ⟨rfl, rfl⟩]
theorem uLay_o {A : zMm} {o j : Int} (h : ¬ (o = 2 ∧ 0 ≤ j ∧ j < 58)) (h2 : ¬ (o = 0 ∧ j = 1023)) : uLay A o j = A o j := by
  unfold uLay
  split
  · show (if o = 2 ∧ 0 ≤ j ∧ j < 58 then aK0 j else if o = 0 ∧ j = 1023 then 1 else A o j) = A o j
    rw [if_neg h, if_neg h2]
  · rfl
theorem uLay_r {A : zMm} {o : Int} (h : o ≠ 2) (h2 : o ≠ 0) : uLay A o = A o := funext fun j => uLay_o (fun q => h q.1) (fun q => h2 q.1)
theorem uLay_k {A : zMm} (hV : vBg (A 0 1023) (A 2)) : aK (uLay A 0 1023) (uLay A 2) = aK (A 0 1023) (A 2) := by
  funext j
  unfold aK
  rw [uLay_bg hV, if_neg (by omega)]
  unfold uLay
  rcases hV with q | ⟨q, q2⟩
  · rw [if_neg (by omega), if_neg (by omega)]
  · rw [if_pos q, if_pos q]
    by_cases h : 0 ≤ j ∧ j < 58
    · rw [if_pos ⟨rfl, h⟩]
    · rw [if_neg (fun z => h z.2), if_neg (by omega), q2]
      unfold aK0
      rw [if_neg (by omega), if_neg (by omega), if_neg (by omega)]
theorem uLay_b {A : zMm} (hV : vBg (A 0 1023) (A 2)) : vBg (uLay A 0 1023) (uLay A 2) := Or.inl (uLay_bg hV)
theorem uLay_2 {A : zMm} {j : Int} (h : 58 ≤ j) : uLay A 2 j = A 2 j := uLay_o (by omega) (by omega)
theorem aVd.lay {A : zMm} (h : aVd A) : aVd (uLay A) :=
  ⟨by rw [uLay_o (by omega) (by omega), uLay_r (by omega) (by omega)]; exact h.tp, uLay_b h.bg, by rw [uLay_k h.bg, uLay_r (by omega) (by omega)]; exact h.ki, h.pl.rc (fun j j0 _ => uLay_2 j0),
   by rw [uLay_o (by omega) (by omega), uLay_r (by omega) (by omega)]; exact h.un, by rw [uLay_r (by omega) (by omega), uLay_r (by omega) (by omega), uLay_r (by omega) (by omega)]; exact h.im, by rw [uLay_o (by omega) (by omega), uLay_r (by omega) (by omega)]; exact h.tx,
   by rw [uLay_o (by omega) (by omega)]; exact h.sv, by rw [uLay_o (by omega) (by omega)]; exact h.pn⟩
theorem zFar.rf {S : zS} {x : Int} {m : zMm} : zFar S x m m := fun _ _ _ _ => rfl
theorem rel.lay {S : zS} {m : zMm} {x : Int} {A : zMm} (h : rel S m x A) : rel S m x (uLay A) :=
  ⟨h.wd, h.sh, by rw [uLay_o (by omega) (by omega), uLay_r (by omega) (by omega)]; exact h.tp, by rw [uLay_k h.vbg, uLay_r (by omega) (by omega)]; exact h.ki, h.pl.rc (fun j j0 _ => uLay_2 j0) h.vpl.1,
   by rw [uLay_o (by omega) (by omega), uLay_r (by omega) (by omega)]; exact h.un, by rw [uLay_r (by omega) (by omega), uLay_r (by omega) (by omega), uLay_r (by omega) (by omega)]; exact h.im, h.se.rc (fun j j0 _ => uLay_2 (by omega)),
   by rw [uLay_o (by omega) (by omega), uLay_r (by omega) (by omega)]; exact h.tx, by rw [uLay_o (by omega) (by omega), uLay_r (by omega) (by omega)]; exact h.sv, by rw [uLay_o (by omega) (by omega), uLay_r (by omega) (by omega)]; exact h.pn,
   by rw [uLay_o (by omega) (by omega)]; exact h.fa, by rw [uLay_o (by omega) (by omega)]; exact h.wy, h.mo, h.cs, h.vd.lay⟩
/-- the model's block and out stay -/
def zOut (x : Int) (m m2 : zMm) : Prop := ∀ a, x + 54 ≤ a → a < x + 91 → ∀ j, m2 a j = m a j
theorem zOut.rf {x : Int} {m : zMm} : zOut x m m := fun _ _ _ _ => rfl
theorem zOut.tr {x : Int} {m m2 m3 : zMm} (h : zOut x m m2) (h2 : zOut x m2 m3) : zOut x m m3 := fun a h0 h1 j => (h2 a h0 h1 j).trans (h a h0 h1 j)
theorem zOut.up {x a i v : Int} {m m2 : zMm} (h : zOut x m m2) (ha : a < x + 54 ∨ x + 91 ≤ a) : zOut x m (zup m2 a i v) := fun c h0 h1 j => by rw [zup_ne (by omega)]; exact h c h0 h1 j
theorem zFar.up {S : zS} {x a i v : Int} {m m2 : zMm} (h : zFar S x m m2) (ha : a < x + 91) : zFar S x m (zup m2 a i v) := fun c h0 h1 j => by rw [zup_ne (by omega)]; exact h c h0 h1 j
/-- what a method of the class leaves: its answer, the world grown, the class's cells as the block A2 says, the model's block as it was -/
def zPo (S : zS) (m : zMm) (x : Int) (v : Option Value) (A2 : zMm) : zQt := fun v' S' m' => v' = v ∧ zGr S S' ∧ rel S' m' x A2 ∧ zOut x m m'
/-! single words change -/
theorem rel.upI {S : zS} {m : zMm} {x k i v : Int} {A : zMm} (h : rel S m x A) (h0 : 0 ≤ k) (h1 : k < 54) (h2 : ¬ rIn k i) : rel S (zup m (x + k) i v) x A :=
  h.set_no zGr.rf (fun k' j _ _ hi _ => zup_ne (fun q => h2 (by rw [show k = k' by omega, ← q.2]; exact hi))) (zFar.rf.up (by omega)) (fun _ _ _ => rfl) trivial
theorem rel.upX {S : zS} {m : zMm} {x i v : Int} {A : zMm} (h : rel S m x A) (h2 : ¬ (i = 1 ∨ i = 7 ∨ i = 12 ∨ i = 13 ∨ i = 15 ∨ i = 17 ∨ i = 30 ∨ i = 32 ∨ i = 35 ∨ i = 38)) : rel S (zup m x i v) x A := by
  have q := h.upI (k := 0) (i := i) (v := v) (by omega) (by omega) (fun z => by unfold rIn at z; omega)
  rw [Int.add_zero] at q
  exact q
theorem rel.upWy {S : zS} {m : zMm} {x v : Int} {A : zMm} (h : rel S m x A) : rel S (zup m x 13 v) x (zup A 0 1026 v) :=
  h.set_wy zGr.rf (fun k j _ _ _ hn => zup_ne (by omega)) (zFar.rf.up (by omega)) (fun o j hn => zup_ne (by omega)) (by unfold rWy; rw [zup_at, zup_at])
theorem rel.upFa {S : zS} {m : zMm} {x v : Int} {A : zMm} (h : rel S m x A) : rel S (zup m x 12 v) x (zup A 0 1010 v) :=
  h.set_fa zGr.rf (fun k j _ _ _ hn => zup_ne (by omega)) (zFar.rf.up (by omega)) (fun o j hn => zup_ne (by omega)) (by unfold rFa; rw [zup_at, zup_at])
theorem rel.upLen {S : zS} {m : zMm} {x n : Int} {A : zMm} (h : rel S m x A) (hn : 0 ≤ n ∧ n ≤ 640) : rel S (zup m x 1 n) x (zup A 0 1002 n) :=
  h.set_tp zGr.rf (fun k j _ _ _ hn => zup_ne (by omega)) (zFar.rf.up (by omega)) (fun o j hn => zup_ne (by omega)) (by rw [zup_at, zup_fn (by omega)]; exact ⟨hn, h.vtp.2⟩)
    (by rw [zup_at, zup_fn (by omega)]; exact ⟨zup_at, fun i i0 i1 => by rw [zup_ne (by omega)]; exact h.tp.2 i i0 i1⟩)
/-- a byte more on the tape -/
def uPut (A : zMm) (u : Int) : zMm := zup (zup A 1 (A 0 1002) u) 0 1002 (A 0 1002 + 1)
def cPut (m : zMm) (x v : Int) : zMm := zup (zup m (x + 1) (m x 1) v) x 1 (m x 1 + 1)
def yPut (m : zMm) (b u : Int) : zMm := zup (zup m (b + 1) (m b 1002) u) b 1002 (m b 1002 + 1)
theorem rel.put {S : zS} {m : zMm} {x u v : Int} {A : zMm} (h : rel S m x A) (hn : A 0 1002 < 640) (hu : 0 ≤ u ∧ u ≤ 255) (hv : v = u.bmod 256) : rel S (cPut m x v) x (uPut A u) := by
  obtain ⟨t1, t2⟩ := h.tp
  obtain ⟨w1, w2⟩ := h.vtp
  refine h.set_tp zGr.rf (fun k j _ _ _ hn => ?_) ((zFar.rf.up (by omega)).up (by omega)) (fun o j hn => ?_) ?_ ?_
  · unfold cPut
    rw [zup_ne (by omega), zup_ne (by omega)]
  · unfold uPut
    rw [zup_ne (by omega), zup_ne (by omega)]
  · refine ⟨?_, fun i i0 i1 => ?_⟩
    · unfold uPut
      rw [zup_at]
      omega
    · unfold uPut
      rw [zup_fn (by omega)]
      by_cases q : i = A 0 1002
      · rw [q, zup_at]
        exact hu
      · rw [zup_nj q]
        exact w2 i i0 i1
  · refine ⟨?_, fun i i0 i1 => ?_⟩
    · unfold cPut uPut
      rw [zup_at, zup_at, t1]
    · unfold cPut uPut
      rw [show zup (zup m (x + 1) (m x 1) v) x 1 (m x 1 + 1) (x + 1) i = zup m (x + 1) (m x 1) v (x + 1) i from zup_ne (by omega), show (zup (zup A 1 (A 0 1002) u) 0 1002 (A 0 1002 + 1)) 1 = zup A 1 (A 0 1002) u 1 from zup_fn (by omega), t1]
      by_cases q : i = A 0 1002
      · rw [q, zup_at, zup_at]
        exact hv
      · rw [zup_nj q, zup_nj q]
        exact t2 i i0 i1
theorem yEq.put {m : zMm} {b u : Int} {A : zMm} (h : yEq m b A) : yEq (yPut m b u) b (uPut A u) := by
  unfold yPut uPut
  rw [h.at]
  exact (h.up (by omega)).up0
/-- four bytes -/
def uCome (A : zMm) (w : Int) : zMm := uPut (uPut (uPut (uPut A (w / 16777216 % 256)) (w / 65536 % 256)) (w / 256 % 256)) (w % 256)
theorem uPut_n {A : zMm} {u : Int} : uPut A u 0 1002 = A 0 1002 + 1 := zup_at
theorem uCome_n {A : zMm} {w : Int} : uCome A w 0 1002 = A 0 1002 + 4 := by
  unfold uCome
  rw [uPut_n, uPut_n, uPut_n, uPut_n]
  omega
