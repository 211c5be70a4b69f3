/-! TEXTS: how many bytes, and which -/
abbrev zTt : Type := Int × (Int → Int)
def tPut (t : zTt) (c : Int) : zTt := (t.1 + 1, fun i => if i = t.1 then c else t.2 i)
theorem tPut_1 {t : zTt} {c : Int} : (tPut t c).1 = t.1 + 1 := rfl
theorem tPut_at {t : zTt} {c : Int} : (tPut t c).2 t.1 = c := if_pos rfl
theorem tPut_ne {t : zTt} {c i : Int} (h : i ≠ t.1) : (tPut t c).2 i = t.2 i := if_neg h
def tN2 (t : zTt) (n : Int) : zTt := if 99 < n then tPut (tPut t 32) (48 + n / 100) else tPut t 32
def tN3 (t : zTt) (n : Int) : zTt := if 9 < n then tPut (tN2 t n) (48 + n / 10 % 10) else tN2 t n
def tNum (t : zTt) (n : Int) : zTt := tPut (tN3 t n) (48 + n % 10)
theorem tNum_1 {t : zTt} {n : Int} : t.1 + 2 ≤ (tNum t n).1 ∧ (tNum t n).1 ≤ t.1 + 4 := by
  unfold tNum tN3 tN2
  repeat' split
  all_goals (simp only [tPut_1]; omega)
def tB (t : zTt) (d : Int) : zTt := if d = 0 then t else tPut t d
def tNm (v : Int) : Nat → zTt → zTt
  | 0, t => t
  | k + 1, t => tNm v k (tB t (v / 2 ^ (8 * (k : Int)).toNat % 256))
def tLw : Nat → Int → zTt → zTt
  | 0, _, t => t
  | f + 1, w, t => if w ≤ 0 then t else tPut (tLw f (w / 27) t) (w % 27 + 96)
def tLs (L : Int → Int) : Nat → zTt → zTt
  | 0, t => t
  | n + 1, t => tLs L n (tPut t (L (n : Int)))
theorem tLw_1 : ∀ {f : Nat} {w : Int} {t : zTt}, t.1 ≤ (tLw f w t).1 ∧ (tLw f w t).1 ≤ t.1 + f := by
  intro f
  induction f with
  | zero => intro w t; exact ⟨Int.le_refl _, by show t.1 ≤ t.1 + ((0 : Nat) : Int); omega⟩
  | succ f ih =>
    intro w t
    unfold tLw
    split
    · omega
    · have := ih (w := w / 27) (t := t)
      rw [tPut_1]
      omega
theorem tLw_0 {f : Nat} {w : Int} {t : zTt} (h : w ≤ 0) : tLw f w t = t := by
  cases f with
  | zero => rfl
  | succ f => unfold tLw; rw [if_pos h]
theorem tLs_c {L M : Int → Int} : ∀ {n : Nat} {t : zTt}, (∀ i, 0 ≤ i → i < (n : Int) → L i = M i) → tLs L n t = tLs M n t := by
  intro n
  induction n with
  | zero => intro t _; rfl
  | succ n ih =>
    intro t h
    show tLs L n (tPut t (L n)) = tLs M n (tPut t (M n))
    rw [h (n : Int) (by omega) (by omega)]
    exact ih (fun i a b => h i a (by omega))
theorem zpw8 (k : Nat) : (2 : Int) ^ (8 * (k : Int)).toNat = 256 ^ k := by
  rw [show (8 * (k : Int)).toNat = 8 * k by omega, Int.pow_mul]
  rfl
theorem tNm_s (v : Int) : ∀ (k : Nat) (t : zTt), tNm v (k + 1) t = tB (tNm (v / 256) k t) (v % 256) := by
  intro k
  induction k with
  | zero =>
    intro t
    show tB t (v / 2 ^ (8 * ((0 : Nat) : Int)).toNat % 256) = tB t (v % 256)
    rw [show (2 : Int) ^ (8 * ((0 : Nat) : Int)).toNat = 1 from rfl, Int.ediv_one]
  | succ k ih =>
    intro t
    show tNm v (k + 1) (tB t (v / 2 ^ (8 * ((k + 1 : Nat) : Int)).toNat % 256)) = tB (tNm (v / 256) k (tB t (v / 256 / 2 ^ (8 * (k : Int)).toNat % 256))) (v % 256)
    rw [ih, zpw8, zpw8, Int.ediv_ediv_of_nonneg (by omega), show (256 : Int) * 256 ^ k = 256 ^ (k + 1) by rw [Int.pow_succ, Int.mul_comm]]
theorem tNm_0 : ∀ (k : Nat) (t : zTt), tNm 0 k t = t := by
  intro k
  induction k with
  | zero => intro t; rfl
  | succ k ih =>
    intro t
    rw [tNm_s]
    show tB (tNm 0 k t) 0 = t
    rw [ih]
    rfl
/-- a name's bytes are its letters -/
theorem tNm_z : ∀ (f : Nat) (w : Int) (t : zTt), tNm (zcN f w) f t = tLw f w t := by
  intro f
  induction f with
  | zero => intro w t; rfl
  | succ f ih =>
    intro w t
    unfold tLw zcN
    by_cases h : w ≤ 0
    · rw [if_pos h, if_pos h, tNm_0]
    · rw [if_neg h, if_neg h, tNm_s]
      have e1 : (zcN f (w / 27) * 256 + (w % 27 + 96)) / 256 = zcN f (w / 27) := by omega
      have e2 : (zcN f (w / 27) * 256 + (w % 27 + 96)) % 256 = w % 27 + 96 := by omega
      rw [e1, e2, ih]
      unfold tB
      rw [if_neg (by omega)]
theorem zcN_b : ∀ (f : Nat) (w : Int), 0 ≤ zcN f w ∧ zcN f w < 256 ^ f ∧ ∀ k : Nat, zcN f w / 2 ^ (8 * (k : Int)).toNat % 256 ≤ 127 := by
  intro f
  induction f with
  | zero => intro w; exact ⟨Int.le_refl _, by show (0 : Int) < 1; decide, fun k => by show (0 : Int) / _ % 256 ≤ 127; rw [Int.zero_ediv]; decide⟩
  | succ f ih =>
    intro w
    unfold zcN
    by_cases h : w ≤ 0
    · rw [if_pos h]
      exact ⟨Int.le_refl _, Int.pow_pos (by omega), fun k => by rw [Int.zero_ediv]; decide⟩
    · rw [if_neg h]
      obtain ⟨a, b, c⟩ := ih (w / 27)
      refine ⟨by omega, by rw [Int.pow_succ]; omega, fun k => ?_⟩
      cases k with
      | zero =>
        rw [show (2 : Int) ^ (8 * ((0 : Nat) : Int)).toNat = 1 from rfl, Int.ediv_one]
        omega
      | succ k =>
        have := c k
        rw [zpw8] at this
        rw [zpw8, Int.pow_succ, Int.mul_comm (256 ^ k) 256, ← Int.ediv_ediv_of_nonneg (by omega), show (zcN f (w / 27) * 256 + (w % 27 + 96)) / 256 = zcN f (w / 27) by omega]
        exact this
theorem zc_b (w : Int) : 0 ≤ zc w ∧ zc w < 281474976710656 ∧ ∀ k : Nat, zc w / 2 ^ (8 * (k : Int)).toNat % 256 ≤ 127 := zcN_b 6 w
theorem tNm_zc (w : Int) (t : zTt) : tNm (zc w) 6 t = tLw 6 w t := tNm_z 6 w t
/-- a go's text; the texts of the first k goes -/
def tGo (N : Int → Int) (g : zGo) (k : Int) (t : zTt) : zTt :=
  tPut (tNum (tNum (tNum (tPut (tPut (tLw 6 (N (g k 0)) t) 32) (if g k 1 = 0 then 116 else 117)) (g k 2)) (g k 3)) (g k 4)) 59
def tWr (N : Int → Int) (g : zGo) : Nat → zTt
  | 0 => (0, fun _ => 0)
  | k + 1 => tGo N g (k : Int) (tWr N g k)
theorem tGo_1 {N : Int → Int} {g : zGo} {k : Int} {t : zTt} : t.1 ≤ (tGo N g k t).1 ∧ (tGo N g k t).1 ≤ t.1 + 21 := by
  unfold tGo
  rw [tPut_1]
  have h1 := tLw_1 (f := 6) (w := N (g k 0)) (t := t)
  have h2 := tNum_1 (t := tPut (tPut (tLw 6 (N (g k 0)) t) 32) (if g k 1 = 0 then 116 else 117)) (n := g k 2)
  have h3 := tNum_1 (t := tNum (tPut (tPut (tLw 6 (N (g k 0)) t) 32) (if g k 1 = 0 then 116 else 117)) (g k 2)) (n := g k 3)
  have h4 := tNum_1 (t := tNum (tNum (tPut (tPut (tLw 6 (N (g k 0)) t) 32) (if g k 1 = 0 then 116 else 117)) (g k 2)) (g k 3)) (n := g k 4)
  simp only [tPut_1] at h2
  omega
theorem zjand_255 (a : Int) : zjand a 255 = a % 256 := by
  unfold zjand
  have e : (Int64.ofInt a &&& Int64.ofInt 255).toInt = ((Int64.ofInt a).toBitVec.toNat % 256 : Nat) := by
    have h1 : (Int64.ofInt a &&& Int64.ofInt 255).toBitVec.toNat = (Int64.ofInt a).toBitVec.toNat % 256 := by
      rw [Int64.toBitVec_and, BitVec.toNat_and, show (Int64.ofInt 255).toBitVec.toNat = 2 ^ 8 - 1 by decide +kernel, Nat.and_two_pow_sub_one_eq_mod]
    show (Int64.ofInt a &&& Int64.ofInt 255).toBitVec.toInt = _
    rw [BitVec.toInt_eq_toNat_cond, h1, if_pos (by have := Nat.mod_lt (Int64.ofInt a).toBitVec.toNat (show 0 < 256 by omega); omega)]
  rw [e, zj_tn]
  have h0 : 0 ≤ a % 18446744073709551616 := Int.emod_nonneg _ (by omega)
  omega
/-- the block A with the text t -/
def uTx (A : zMm) (t : zTt) : zMm := fun o j => if o = 11 then t.2 j else if o = 0 ∧ j = 1029 then t.1 else A o j
theorem uTx_o {A : zMm} {t : zTt} {o j : Int} (h : ¬ (o = 11 ∨ (o = 0 ∧ j = 1029))) : uTx A t o j = A o j := by
  unfold uTx
  rw [if_neg (by omega), if_neg (by omega)]
theorem uTx_c {A : zMm} {t : zTt} {o : Int} (h : o ≠ 11) (h2 : o ≠ 0) : uTx A t o = A o := funext fun j => uTx_o (by omega)
theorem uTx_n {A : zMm} {t : zTt} : uTx A t 0 1029 = t.1 := by
  unfold uTx
  rw [if_neg (by omega), if_pos ⟨rfl, rfl⟩]
theorem uTx_t {A : zMm} {t : zTt} : uTx A t 11 = t.2 := funext fun j => if_pos rfl
theorem uTx_K {A : zMm} {t : zTt} : aK (uTx A t 0 1023) (uTx A t 2) = aK (A 0 1023) (A 2) := by rw [uTx_o (by omega), uTx_c (by omega) (by omega)]
theorem rel.tx0 {S : zS} {m : zMm} {x : Int} {A : zMm} (h : rel S m x A) : rel S (zup m x 15 0) x (uTx A (0, fun _ => 0)) :=
  h.set_tx zGr.rf (fun k j _ _ _ hn => zup_ne (by omega)) (zFar.rf.up (by omega)) (fun o j hn => uTx_o hn) (by rw [uTx_n, uTx_t]; exact ⟨by omega, fun i a b => by omega⟩)
    (by rw [uTx_n, uTx_t]; exact ⟨zup_at, fun i a b => by omega⟩)
theorem rel.txp {S : zS} {m : zMm} {x c v : Int} {A : zMm} {t : zTt} (h : rel S m x (uTx A t)) (hc : 0 ≤ c ∧ c ≤ 127) (hn : t.1 < 8000) (hv : v = c) : rel S (zup (zup m (x + 28) (m x 15) v) x 15 (m x 15 + 1)) x (uTx A (tPut t c)) := by
  obtain ⟨t1, t2⟩ := h.tx
  obtain ⟨w1, w2⟩ := h.vtx
  rw [uTx_n] at t1 t2 w1 w2
  rw [uTx_t] at t2 w2
  refine h.set_tx zGr.rf (fun k j _ _ _ hn => ?_) ((zFar.rf.up (by omega)).up (by omega)) (fun o j hn => ?_) ?_ ?_
  · rw [zup_ne (by omega), zup_ne (by omega)]
  · rw [uTx_o hn, uTx_o hn]
  · rw [uTx_n, uTx_t, tPut_1]
    refine ⟨by omega, fun i i0 i1 => ?_⟩
    by_cases q : i = t.1
    · rw [q, tPut_at]; exact hc
    · rw [tPut_ne q]; exact w2 i i0 (by omega)
  · rw [uTx_n, uTx_t, tPut_1]
    refine ⟨by rw [zup_at, t1], fun i i0 i1 => ?_⟩
    rw [zup_ne (by omega), t1]
    by_cases q : i = t.1
    · rw [q, zup_at, tPut_at, hv]
    · rw [zup_nj q, tPut_ne q]; exact t2 i i0 (by omega)
/-! the model's text -/
def yTt (b : Int) (m : zMm) (t : zTt) : Prop := m b 1029 = t.1 ∧ ∀ i, 0 ≤ i → i < t.1 → m (b + 11) i = t.2 i
/-- only the text changes -/
def zPw (b : Int) (m m2 : zMm) : Prop := ∀ a j, a ≠ b + 11 → ¬ (a = b ∧ j = 1029) → m2 a j = m a j
theorem zPw.rf {b : Int} {m : zMm} : zPw b m m := fun _ _ _ _ => rfl
theorem zPw.tr {b : Int} {m m2 m3 : zMm} (h : zPw b m m2) (h2 : zPw b m2 m3) : zPw b m m3 := fun a j p q => (h2 a j p q).trans (h a j p q)
/-- only the text and scratch -/
def zTw (b : Int) (m m2 : zMm) : Prop := ∀ a j, (a < b ∨ b + 36 ≤ a ∨ (zUw (a - b) j ∧ a ≠ b + 11 ∧ ¬ (a = b ∧ j = 1029))) → m2 a j = m a j
theorem zTw.rf {b : Int} {m : zMm} : zTw b m m := fun _ _ _ => rfl
theorem zTw.tr {b : Int} {m m2 m3 : zMm} (h : zTw b m m2) (h2 : zTw b m2 m3) : zTw b m m3 := fun a j p => (h2 a j p).trans (h a j p)
theorem zPw.tw {b : Int} {m m2 : zMm} (h : zPw b m m2) : zTw b m m2 := fun a j p => h a j (by omega) (by omega)
theorem zSc.tw {b : Int} {m m2 : zMm} (h : zSc b m m2) : zTw b m m2 := fun a j p => h a j (by rcases p with q | q | q; exact Or.inl q; exact Or.inr (Or.inl q); exact Or.inr (Or.inr q.1))
theorem zTw.row {b : Int} {m m2 : zMm} (h : zTw b m m2) : ∀ j, m2 (b + 2) j = m (b + 2) j := fun j => h _ j (by rw [show b + 2 - b = 2 by omega]; exact Or.inr (Or.inr ⟨zUw.c (by omega) j, by omega, by omega⟩))
theorem zTw.nam {b : Int} {m m2 : zMm} (h : zTw b m m2) : ∀ j, m2 (b + 6) j = m (b + 6) j := fun j => h _ j (by rw [show b + 6 - b = 6 by omega]; exact Or.inr (Or.inr ⟨zUw.c (by omega) j, by omega, by omega⟩))
theorem zTw.inn {b : Int} {m m2 : zMm} (h : zTw b m m2) : zIn b m m2 := fun a p j => h a j (by omega)
theorem yTt.of {b : Int} {m m2 : zMm} {t : zTt} (h : yTt b m t) (h1 : m2 b 1029 = m b 1029) (h2 : ∀ j, m2 (b + 11) j = m (b + 11) j) : yTt b m2 t := ⟨h1.trans h.1, fun i a c => (h2 i).trans (h.2 i a c)⟩
theorem yTt.put {b c : Int} {m : zMm} {t : zTt} (h : yTt b m t) : yTt b (zup (zup m (b + 11) (m b 1029) c) b 1029 (m b 1029 + 1)) (tPut t c) := by
  refine ⟨by rw [zup_at, tPut_1, h.1], fun i i0 i1 => ?_⟩
  rw [tPut_1] at i1
  rw [zup_ne (by omega), h.1]
  by_cases q : i = t.1
  · rw [q, zup_at, tPut_at]
  · rw [zup_nj q, tPut_ne q]; exact h.2 i i0 (by omega)
theorem yEw.tx {b : Int} {m m2 : zMm} {A : zMm} {t : zTt} (h : yEw m b A) (hw : zTw b m m2) (ht : yTt b m2 t) : yEw m2 b (uTx A (t.1, m2 (b + 11))) := by
  intro o j q
  unfold uTx
  by_cases e : o = 11
  · rw [if_pos e, e]
  · rw [if_neg e]
    by_cases e2 : o = 0 ∧ j = 1029
    · rw [if_pos e2, e2.1, e2.2, Int.add_zero]; exact ht.1
    · rw [if_neg e2, hw (b + o) j (by rw [show b + o - b = o by omega]; exact Or.inr (Or.inr ⟨q, by omega, by omega⟩))]
      exact h o j q
theorem rel.txc {S : zS} {m : zMm} {x : Int} {A : zMm} {t : zTt} {T : Int → Int} (h : rel S m x (uTx A t)) (e : ∀ i, 0 ≤ i → i < t.1 → T i = t.2 i) : rel S m x (uTx A (t.1, T)) := by
  obtain ⟨t1, t2⟩ := h.tx
  obtain ⟨w1, w2⟩ := h.vtx
  rw [uTx_n] at t1 t2 w1 w2
  rw [uTx_t] at t2 w2
  refine h.set_tx zGr.rf (fun k j _ _ _ hn => rfl) zFar.rf (fun o j hn => by rw [uTx_o hn, uTx_o hn]) ?_ ?_
  · rw [uTx_n, uTx_t]
    exact ⟨w1, fun i a b => by show 0 ≤ T i ∧ T i ≤ 127; rw [e i a b]; exact w2 i a b⟩
  · rw [uTx_n, uTx_t]
    exact ⟨t1, fun i a b => by show _ = T i; rw [e i a b]; exact t2 i a b⟩
