/-! served: the class (written by gen/m_serv2.py) -/
/-- only the guests' cells of the class change: M is the table -/
def zHs (x M : Int) (m m2 : zMm) : Prop := ∀ a j, a ≠ M → a ≠ x + 45 → ¬ (a = x ∧ (j = 30 ∨ j = 32)) → m2 a j = m a j
theorem zHs.up {x M a i v : Int} {m m2 : zMm} (h : zHs x M m m2) (ha : a = M ∨ a = x + 45 ∨ (a = x ∧ (i = 30 ∨ i = 32))) : zHs x M m (zup m2 a i v) := fun b j h1 h2 h3 => by
  rw [zup_ne (by omega)]
  exact h b j h1 h2 h3
theorem zKit.old {S : zS} {p M : Int} (h : zKit S p) (hM : zk S M = 0 ∨ zMa S M) {a : Int} (h0 : p ≤ a) (h1 : a < p + 9) : a ≠ M := by
  have key : ∀ b, zOld S b → b ≠ M := fun b hb q => by
    subst q
    rcases hM with z | z
    · exact hb.1 z
    · exact hb.2 z
  refine key a ?_
  rcases (by omega : a = p ∨ a = p + 1 ∨ a = p + 2 ∨ a = p + 3 ∨ a = p + 4 ∨ a = p + 5 ∨ a = p + 6 ∨ a = p + 7 ∨ a = p + 8) with q | q | q | q | q | q | q | q | q <;> rw [q]
  · exact zOld.k h.k (by omega)
  · exact zOld.k h.a200 (by omega)
  · exact zOld.k h.a201 (by omega)
  · exact zOld.n h.a202 (by omega) h.n202 (by omega)
  · exact zOld.n h.a203 (by omega) h.n203 (by omega)
  · exact zOld.n h.a204 (by omega) h.n204 (by omega)
  · exact zOld.n h.a205 (by omega) h.n205 (by omega)
  · exact zOld.n h.a206 (by omega) h.n206 (by omega)
  · exact zOld.k h.a207 (by omega)
def uSv (A : zMm) (n : Int) (V : Int → Int) : zMm := fun o j => if o = 29 then V j else if o = 0 ∧ j = 1049 then n else A o j
theorem uSv_o {A : zMm} {n : Int} {V : Int → Int} {o j : Int} (h : ¬ (o = 29 ∨ (o = 0 ∧ j = 1049))) : uSv A n V o j = A o j := by
  unfold uSv
  rw [if_neg (by omega), if_neg (by omega)]
theorem uSv_n {A : zMm} {n : Int} {V : Int → Int} : uSv A n V 0 1049 = n := by
  unfold uSv
  rw [if_neg (by omega), if_pos ⟨rfl, rfl⟩]
theorem uSv_v {A : zMm} {n : Int} {V : Int → Int} : uSv A n V 29 = V := funext fun j => if_pos rfl
theorem rel.servc {S : zS} {m : zMm} {x n : Int} {V W : Int → Int} {A : zMm} (h : rel S m x (uSv A n V)) (e : ∀ i, 0 ≤ i → i < n → W i = V i) : rel S m x (uSv A n W) := by
  have q := h.sv
  have v := h.vsv
  rw [uSv_n] at q v
  rw [uSv_v] at q
  refine h.set_sv zGr.rf (fun k j _ _ _ _ => rfl) (fun _ _ _ _ => rfl) (fun o j z => by rw [uSv_o z, uSv_o z]) (by rw [uSv_n]; exact v) ?_
  rw [uSv_n, uSv_v]
  exact ⟨q.1, fun i a b => by rw [e i a b]; exact q.2 i a b⟩
theorem rel.serv {S S2 : zS} {m m2 : zMm} {x n M : Int} {V : Int → Int} {A : zMm} (h : rel S m x A) (hg : zGr S S2) (hz : zHs x M m m2) (hM : zk S M = 0 ∨ zMa S M) (hMx : x + 91 ≤ M) (hk : zk S2 M = 101) (hl : ∃ e, 0 ≤ e ∧ zn S2 M = 256 * e) (h30 : m2 x 30 = M) (hn : 0 ≤ n ∧ n ≤ 8) (h1 : m2 x 32 = n) (h2 : ∀ i, 0 ≤ i → i < n → m2 (x + 45) i = V i) : rel S2 m2 x (uSv A n V) := by
  have far : zFar S x m m2 := fun a a0 ho j => hz a j (fun q => by
    subst q
    rcases hM with z | z
    · exact ho.1 z
    · exact ho.2 z) (by omega) (by omega)
  have r1 : rel S (fun a j => if a = x ∧ j = 30 then m x 30 else m2 a j) x (uSv A n V) :=
    h.set_sv zGr.rf (fun k j k0 k1 hi hne => by
        show (if x + k = x ∧ j = 30 then m x 30 else m2 (x + k) j) = m (x + k) j
        by_cases q : x + k = x ∧ j = 30
        · rw [if_pos q, q.1, q.2]
        · rw [if_neg q]; exact hz _ _ (by omega) (by omega) (by omega)) (fun a a0 ho j => by
        show (if a = x ∧ j = 30 then m x 30 else m2 a j) = m a j
        rw [if_neg (by omega)]
        exact far a a0 ho j) (fun o j q => uSv_o q) (by rw [uSv_n]; exact hn) (by
        rw [uSv_n, uSv_v]
        refine ⟨Or.inl ?_, fun i i0 i1 => ?_⟩
        · show (if x = x ∧ (32 : Int) = 30 then m x 30 else m2 x 32) = n
          rw [if_neg (by omega)]; exact h1
        · show (if x + 45 = x ∧ i = 30 then m x 30 else m2 (x + 45) i) = V i
          rw [if_neg (by omega)]; exact h2 i i0 i1)
  refine r1.set_mo hg (fun k j k0 k1 hi hne => ?_) (fun a a0 ho j => ?_) (fun _ _ _ => rfl) ⟨by rw [h30]; exact hk, Or.inr (by rw [h30]; exact hMx), by rw [h30]; exact hl⟩
  · show m2 (x + k) j = (if x + k = x ∧ j = 30 then m x 30 else m2 (x + k) j)
    rw [if_neg (by omega)]
  · show m2 a j = (if a = x ∧ j = 30 then m x 30 else m2 a j)
    rw [if_neg (by omega)]
