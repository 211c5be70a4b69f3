/-! THE CLASS AGAINST THE MODEL'S BLOCK. A: what the model's block holds (A o j = the word j of the cell b + o); rel: the class's cells say the same -/
def aK (bg : Int) (R : Int → Int) : Int → Int := fun j => if bg = 0 then aK0 j else R j
/-- the goes of the plan that lies from place c of the row R -/
def aGo (R : Int → Int) (c : Int) : zGo := fun k w => R (c + 1 + 5 * k + w)
/-- a name by letters to 27 as one by bytes -/
def zcN : Nat → Int → Int
  | 0, _ => 0
  | f + 1, w => if w ≤ 0 then 0 else zcN f (w / 27) * 256 + (w % 27 + 96)
def zc (w : Int) : Int := zcN 6 w
/-- a name: one to six small letters -/
def zNmN : Nat → Int → Prop
  | 0, _ => False
  | f + 1, w => 1 ≤ w % 27 ∧ 0 ≤ w ∧ (w / 27 = 0 ∨ zNmN f (w / 27))
def zNm (w : Int) : Prop := zNmN 6 w
/-- a sentence's tree at p is the row's k-th one (R: the rows) -/
def zTr (S : zS) (m : zMm) (R : Int → Int) : Nat → Int → Int → Prop
  | 0, _, _ => False
  | f + 1, k, p => (0 ≤ k ∧ k < 60) ∧ ((R (4 * k) = 1 ∧ zk S p = 12 ∧ zTr S m R f (R (4 * k + 1)) (zf S p 1100)) ∨
    (R (4 * k) = 2 ∧ zk S p = 15 ∧ zTr S m R f (R (4 * k + 1)) (zf S p 1400) ∧ zTr S m R f (R (4 * k + 2)) (zf S p 1401)) ∨
    (R (4 * k) = 3 ∧ zk S p = 16 ∧ zTr S m R f (R (4 * k + 1)) (zf S p 1500) ∧ zTr S m R f (R (4 * k + 2)) (zf S p 1501)) ∨
    (R (4 * k) = 55 ∧ zk S p = 13 ∧ m p 1200 = 0) ∨ (R (4 * k) = 63 ∧ zk S p = 13 ∧ m p 1200 = 1) ∨
    (R (4 * k) = 64 ∧ zk S p = 13 ∧ m p 1200 = 2 ∧ m p 1201 = R (4 * k + 1) ∧ 0 ≤ R (4 * k + 1) ∧ R (4 * k + 1) < 8) ∨
    ((R (4 * k) = 58 ∧ m p 1300 = 0 ∨ R (4 * k) = 59 ∧ m p 1300 = 1 ∨ R (4 * k) = 65 ∧ m p 1300 = 2 ∨ R (4 * k) = 66 ∧ m p 1300 = 3) ∧ zk S p = 14 ∧ m p 1301 = R (4 * k + 3) ∧ (R (4 * k + 3) = 60 ∨ R (4 * k + 3) = 61 ∨ R (4 * k + 3) = 62) ∧ m p 1302 = R (4 * k + 2)))
/-- the sentence at p (none: -1) is that of the row R behind the plan at c -/
def zSe (S : zS) (m : zMm) (p : Int) (R : Int → Int) (c : Int) : Prop := (R (c + 2001) = 0 ∧ p = -1) ∨ (R (c + 2001) = 1 ∧ 0 ≤ p ∧ 0 ≤ R (c + 2002) ∧ R (c + 2002) < 60 ∧ zTr S m (fun j => R (c + 2003 + j)) 60 (R (c + 2002)) p)
/-- the kitchen at p -/
def zKA (S : zS) (m : zMm) (x p : Int) (K N : Int → Int) : Prop := (p = x + 5 ∨ x + 91 ≤ p) ∧ zKR S m p K ∧ ∀ j, 0 ≤ j → j < K 5 → m (p + 1) j = zc (N j)
/-! what is asked of the class's cells, one by one -/
def rTp (m : zMm) (x n : Int) (T : Int → Int) : Prop := m x 1 = n ∧ ∀ i, 0 ≤ i → i < 640 → m (x + 1) i = (T i).bmod 256
def rKi (S : zS) (m : zMm) (x : Int) (K N : Int → Int) : Prop := zKA S m x (m x 7) K N
def rPl (S : zS) (m : zMm) (x : Int) (R : Int → Int) : Prop := zPR S m (x + 14) (R 58) (aGo R 58)
def rUn (S : zS) (m : zMm) (x u : Int) (U : Int → Int) : Prop := m x 17 = u ∧
  (∀ q, 0 ≤ q → q < 8 → m (x + 29) q = -1 ∨ (x + 91 ≤ m (x + 29) q ∧ zPlan S (m (x + 29) q))) ∧
  (∀ q, 0 ≤ q → q < u → x + 91 ≤ m (x + 29) q ∧ zPR S m (m (x + 29) q) (U (2001 * q)) (aGo U (2001 * q))) ∧
  (∀ q r, 0 ≤ q → q < r → r < 8 → m (x + 29) q = -1 ∨ m (x + 29) q ≠ m (x + 29) r)
def rIm (S : zS) (m : zMm) (x : Int) (F R N : Int → Int) : Prop := (∀ i, 0 ≤ i → i < 2 → (F i = 0 ∧ m (x + 52) i = -1) ∨ (F i = 1 ∧ x + 91 ≤ m (x + 52) i ∧ zPR S m (m (x + 52) i) (R (2301 * i + 58)) (aGo R (2301 * i + 58)) ∧
    zKA S m x (m (x + 51) i) (fun j => R (2301 * i + j)) (fun j => N (21 * i + j)) ∧ zSe S m (m (x + 53) i) R (2301 * i + 58))) ∧
  (m (x + 52) 0 = -1 ∨ m (x + 52) 0 ≠ m (x + 52) 1) ∧ ∀ q i, 0 ≤ q → q < 8 → 0 ≤ i → i < 2 → m (x + 29) q = -1 ∨ m (x + 29) q ≠ m (x + 52) i
def rSe (S : zS) (m : zMm) (x : Int) (R : Int → Int) : Prop := zSe S m (m x 38) R 58
def rTx (m : zMm) (x n : Int) (T : Int → Int) : Prop := m x 15 = n ∧ ∀ i, 0 ≤ i → i < n → m (x + 28) i = T i
def rSv (m : zMm) (x n : Int) (V : Int → Int) : Prop := (m x 32 = n ∨ (m x 32 = -1 ∧ n = 0)) ∧ ∀ i, 0 ≤ i → i < n → m (x + 45) i = V i
def rPn (m : zMm) (x n : Int) (V : Int → Int) : Prop := (m x 35 = n ∨ (m x 35 = -1 ∧ n = 0)) ∧ ∀ i, 0 ≤ i → i < n → m (x + 46) i = V i
def rFa (m : zMm) (x f : Int) : Prop := m x 12 = f
def rWy (m : zMm) (x f : Int) : Prop := m x 13 = f
def rMo (S : zS) (m : zMm) (x : Int) : Prop := zk S (m x 30) = 101 ∧ (m x 30 = x + 44 ∨ x + 91 ≤ m x 30) ∧ ∃ e, 0 ≤ e ∧ zn S (m x 30) = 256 * e
def rCs (m : zMm) (x : Int) : Prop := m (x + 26) 400 = 600 ∧ m (x + 27) 400 = 600 ∧ m (x + 48) 400 = 200 ∧ m (x + 35) 0 = x + 36 ∧ m (x + 35) 1 = x + 37 ∧ m (x + 35) 2 = x + 38
/-- what holds of the model's block: of its rows -/
def vTp (n : Int) (T : Int → Int) : Prop := (0 ≤ n ∧ n ≤ 640) ∧ ∀ i, 0 ≤ i → i < 640 → 0 ≤ T i ∧ T i ≤ 255
def vBg (bg : Int) (R : Int → Int) : Prop := bg = 1 ∨ (bg = 0 ∧ ∀ j, R j = 0)
def vKi (K N : Int → Int) : Prop := zKV K ∧ ∀ j, 0 ≤ j → j < K 5 → zNm (N j)
def vPl (R : Int → Int) : Prop := zGV (R 58) (aGo R 58)
def vUn (u : Int) (U : Int → Int) : Prop := (0 ≤ u ∧ u ≤ 8) ∧ ∀ q, 0 ≤ q → q < u → zGV (U (2001 * q)) (aGo U (2001 * q))
def vIm (F R N : Int → Int) : Prop := ∀ i, 0 ≤ i → i < 2 → F i = 0 ∨ (F i = 1 ∧ zKV (fun j => R (2301 * i + j)) ∧ (∀ j, 0 ≤ j → j < R (2301 * i + 5) → zNm (N (21 * i + j))) ∧ zGV (R (2301 * i + 58)) (aGo R (2301 * i + 58)))
def vTx (n : Int) (T : Int → Int) : Prop := (0 ≤ n ∧ n ≤ 8000) ∧ ∀ i, 0 ≤ i → i < n → 0 ≤ T i ∧ T i ≤ 127
def vSv (n : Int) : Prop := 0 ≤ n ∧ n ≤ 8
def vPn (n : Int) : Prop := 0 ≤ n ∧ n ≤ 5
/-- the blocks lie ahead of what comes; conditions' cells lie far behind -/
def rWd (S : zS) (x : Int) : Prop := x + 91 ≤ zx S ∧ ∀ a, 12 ≤ zk S a → zk S a ≤ 16 → x + 91 ≤ a
theorem rWd.gr {S S2 : zS} {x : Int} (h : rWd S x) (hg : zGr S S2) : rWd S2 x := ⟨Int.le_trans h.1 hg.1, fun a h1 h2 => by
  by_cases q : a < zx S
  · rw [hg.o a q] at h1 h2
    exact h.2 a h1 h2
  · have := h.1
    omega⟩
/-- what holds of the model's block -/
def aVd (A : zMm) : Prop :=
  vTp (A 0 1002) (A 1) ∧
  vBg (A 0 1023) (A 2) ∧
  vKi (aK (A 0 1023) (A 2)) (A 6) ∧
  vPl (A 2) ∧
  vUn (A 0 1022) (A 5) ∧
  vIm (A 9) (A 4) (A 8) ∧
  vTx (A 0 1029) (A 11) ∧
  vSv (A 0 1049) ∧
  vPn (A 0 1053)
theorem aVd.tp {A : zMm} (h : aVd A) : vTp (A 0 1002) (A 1) := h.1
theorem aVd.bg {A : zMm} (h : aVd A) : vBg (A 0 1023) (A 2) := h.2.1
theorem aVd.ki {A : zMm} (h : aVd A) : vKi (aK (A 0 1023) (A 2)) (A 6) := h.2.2.1
theorem aVd.pl {A : zMm} (h : aVd A) : vPl (A 2) := h.2.2.2.1
theorem aVd.un {A : zMm} (h : aVd A) : vUn (A 0 1022) (A 5) := h.2.2.2.2.1
theorem aVd.im {A : zMm} (h : aVd A) : vIm (A 9) (A 4) (A 8) := h.2.2.2.2.2.1
theorem aVd.tx {A : zMm} (h : aVd A) : vTx (A 0 1029) (A 11) := h.2.2.2.2.2.2.1
theorem aVd.sv {A : zMm} (h : aVd A) : vSv (A 0 1049) := h.2.2.2.2.2.2.2.1
theorem aVd.pn {A : zMm} (h : aVd A) : vPn (A 0 1053) := h.2.2.2.2.2.2.2.2
def rel (S : zS) (m : zMm) (x : Int) (A : zMm) : Prop :=
  rWd S x ∧
  zPan S x ∧
  rTp m x (A 0 1002) (A 1) ∧
  rKi S m x (aK (A 0 1023) (A 2)) (A 6) ∧
  rPl S m x (A 2) ∧
  rUn S m x (A 0 1022) (A 5) ∧
  rIm S m x (A 9) (A 4) (A 8) ∧
  rSe S m x (A 2) ∧
  rTx m x (A 0 1029) (A 11) ∧
  rSv m x (A 0 1049) (A 29) ∧
  rPn m x (A 0 1053) (A 32) ∧
  rFa m x (A 0 1010) ∧
  rWy m x (A 0 1026) ∧
  rMo S m x ∧
  rCs m x ∧
  aVd A
theorem rel.wd {S : zS} {m : zMm} {x : Int} {A : zMm} (h : rel S m x A) : rWd S x := h.1
theorem rel.sh {S : zS} {m : zMm} {x : Int} {A : zMm} (h : rel S m x A) : zPan S x := h.2.1
theorem rel.tp {S : zS} {m : zMm} {x : Int} {A : zMm} (h : rel S m x A) : rTp m x (A 0 1002) (A 1) := h.2.2.1
theorem rel.ki {S : zS} {m : zMm} {x : Int} {A : zMm} (h : rel S m x A) : rKi S m x (aK (A 0 1023) (A 2)) (A 6) := h.2.2.2.1
theorem rel.pl {S : zS} {m : zMm} {x : Int} {A : zMm} (h : rel S m x A) : rPl S m x (A 2) := h.2.2.2.2.1
theorem rel.un {S : zS} {m : zMm} {x : Int} {A : zMm} (h : rel S m x A) : rUn S m x (A 0 1022) (A 5) := h.2.2.2.2.2.1
theorem rel.im {S : zS} {m : zMm} {x : Int} {A : zMm} (h : rel S m x A) : rIm S m x (A 9) (A 4) (A 8) := h.2.2.2.2.2.2.1
theorem rel.se {S : zS} {m : zMm} {x : Int} {A : zMm} (h : rel S m x A) : rSe S m x (A 2) := h.2.2.2.2.2.2.2.1
theorem rel.tx {S : zS} {m : zMm} {x : Int} {A : zMm} (h : rel S m x A) : rTx m x (A 0 1029) (A 11) := h.2.2.2.2.2.2.2.2.1
theorem rel.sv {S : zS} {m : zMm} {x : Int} {A : zMm} (h : rel S m x A) : rSv m x (A 0 1049) (A 29) := h.2.2.2.2.2.2.2.2.2.1
theorem rel.pn {S : zS} {m : zMm} {x : Int} {A : zMm} (h : rel S m x A) : rPn m x (A 0 1053) (A 32) := h.2.2.2.2.2.2.2.2.2.2.1
theorem rel.fa {S : zS} {m : zMm} {x : Int} {A : zMm} (h : rel S m x A) : rFa m x (A 0 1010) := h.2.2.2.2.2.2.2.2.2.2.2.1
theorem rel.wy {S : zS} {m : zMm} {x : Int} {A : zMm} (h : rel S m x A) : rWy m x (A 0 1026) := h.2.2.2.2.2.2.2.2.2.2.2.2.1
theorem rel.mo {S : zS} {m : zMm} {x : Int} {A : zMm} (h : rel S m x A) : rMo S m x := h.2.2.2.2.2.2.2.2.2.2.2.2.2.1
theorem rel.cs {S : zS} {m : zMm} {x : Int} {A : zMm} (h : rel S m x A) : rCs m x := h.2.2.2.2.2.2.2.2.2.2.2.2.2.2.1
theorem rel.vd {S : zS} {m : zMm} {x : Int} {A : zMm} (h : rel S m x A) : aVd A := h.2.2.2.2.2.2.2.2.2.2.2.2.2.2.2
theorem rel.vtp {S : zS} {m : zMm} {x : Int} {A : zMm} (h : rel S m x A) : vTp (A 0 1002) (A 1) := h.vd.tp
theorem rel.vbg {S : zS} {m : zMm} {x : Int} {A : zMm} (h : rel S m x A) : vBg (A 0 1023) (A 2) := h.vd.bg
theorem rel.vki {S : zS} {m : zMm} {x : Int} {A : zMm} (h : rel S m x A) : vKi (aK (A 0 1023) (A 2)) (A 6) := h.vd.ki
theorem rel.vpl {S : zS} {m : zMm} {x : Int} {A : zMm} (h : rel S m x A) : vPl (A 2) := h.vd.pl
theorem rel.vun {S : zS} {m : zMm} {x : Int} {A : zMm} (h : rel S m x A) : vUn (A 0 1022) (A 5) := h.vd.un
theorem rel.vim {S : zS} {m : zMm} {x : Int} {A : zMm} (h : rel S m x A) : vIm (A 9) (A 4) (A 8) := h.vd.im
theorem rel.vtx {S : zS} {m : zMm} {x : Int} {A : zMm} (h : rel S m x A) : vTx (A 0 1029) (A 11) := h.vd.tx
theorem rel.vsv {S : zS} {m : zMm} {x : Int} {A : zMm} (h : rel S m x A) : vSv (A 0 1049) := h.vd.sv
theorem rel.vpn {S : zS} {m : zMm} {x : Int} {A : zMm} (h : rel S m x A) : vPn (A 0 1053) := h.vd.pn
/-! APART -/
theorem zSh.apt {S : zS} {p q : Int} {L : List (Nat × Int × Int × Int)} {i : Nat} {o : Int} {κ : Nat} (h : zk S (p + o) = κ) (hq : zk S q ≠ κ) : q ≠ p + o := fun e => hq (by rw [e]; exact h)
theorem zPlan.ap {S : zS} {p q : Int} (h : zPlan S p) (h2 : zPlan S q) (hne : p ≠ q) : p + 6 ≤ q ∨ q + 6 ≤ p := by
  have e1 : ∀ {p q : Int}, zPlan S p → zPlan S q → q ≠ p + 1 ∧ q ≠ p + 2 ∧ q ≠ p + 3 ∧ q ≠ p + 4 ∧ q ≠ p + 5 := by
    intro p q h h2
    refine ⟨?_, ?_, ?_, ?_, ?_⟩ <;> (intro e; have hk := h2.k; rw [e] at hk)
    · rw [h.a300] at hk; omega
    · rw [h.a301] at hk; omega
    · rw [h.a302] at hk; omega
    · rw [h.a303] at hk; omega
    · rw [h.a304] at hk; omega
  have a := e1 h h2
  have b := e1 h2 h
  omega
theorem zPlan.apK {S : zS} {p q : Int} (h : zPlan S p) (h2 : zKit S q) : p + 6 ≤ q ∨ q + 9 ≤ p := by
  have a : q ≠ p ∧ q ≠ p + 1 ∧ q ≠ p + 2 ∧ q ≠ p + 3 ∧ q ≠ p + 4 ∧ q ≠ p + 5 := by
    refine ⟨?_, ?_, ?_, ?_, ?_, ?_⟩ <;> (intro e; have hk := h2.k; rw [e] at hk)
    · rw [h.k] at hk; omega
    · rw [h.a300] at hk; omega
    · rw [h.a301] at hk; omega
    · rw [h.a302] at hk; omega
    · rw [h.a303] at hk; omega
    · rw [h.a304] at hk; omega
  have b : p ≠ q + 1 ∧ p ≠ q + 2 ∧ p ≠ q + 3 ∧ p ≠ q + 4 ∧ p ≠ q + 5 ∧ p ≠ q + 6 ∧ p ≠ q + 7 ∧ p ≠ q + 8 := by
    refine ⟨?_, ?_, ?_, ?_, ?_, ?_, ?_, ?_⟩ <;> (intro e; have hk := h.k; rw [e] at hk)
    · rw [h2.a200] at hk; omega
    · rw [h2.a201] at hk; omega
    · rw [h2.a202] at hk; omega
    · rw [h2.a203] at hk; omega
    · rw [h2.a204] at hk; omega
    · rw [h2.a205] at hk; omega
    · rw [h2.a206] at hk; omega
    · rw [h2.a207] at hk; omega
  omega
/-! FRAMES: the same cells say the same -/
theorem zPR.fr {S S2 : zS} {m m2 : zMm} {p n : Int} {g : zGo} (h : zPR S m p n g) (hS : zGr S S2) (hm : ∀ a, p ≤ a → a < p + 6 → ∀ j, m2 a j = m a j) : zPR S2 m2 p n g := by
  obtain ⟨h1, h2, h3⟩ := h
  refine ⟨h1.gr hS, by rw [hm p (by omega) (by omega)]; exact h2, fun k k0 k1 => ?_⟩
  rw [hm (p + 1) (by omega) (by omega), hm (p + 2) (by omega) (by omega), hm (p + 3) (by omega) (by omega), hm (p + 4) (by omega) (by omega), hm (p + 5) (by omega) (by omega)]
  exact h3 k k0 k1
theorem zPR.gc {S : zS} {m : zMm} {p n n' : Int} {g g' : zGo} (h : zPR S m p n g) (hn : n' = n) (hg : ∀ k w, 0 ≤ k → k < n → 0 ≤ w → w < 5 → g' k w = g k w) : zPR S m p n' g' := by
  obtain ⟨h1, h2, h3⟩ := h
  refine ⟨h1, by rw [hn]; exact h2, fun k k0 k1 => ?_⟩
  have h4 := h3 k k0 (by omega)
  rw [hg k 0 k0 (by omega) (by omega) (by omega), hg k 1 k0 (by omega) (by omega) (by omega), hg k 2 k0 (by omega) (by omega) (by omega), hg k 3 k0 (by omega) (by omega) (by omega), hg k 4 k0 (by omega) (by omega) (by omega)]
  exact h4
theorem zKR.fr {S S2 : zS} {m m2 : zMm} {p : Int} {K : Int → Int} (h : zKR S m p K) (hS : zGr S S2) (hm : ∀ a, p ≤ a → a < p + 9 → ∀ j, m2 a j = m a j) : zKR S2 m2 p K := by
  obtain ⟨h1, h2, h3, h4, h5⟩ := h
  have e0 := hm p (by omega) (by omega)
  have e3 := hm (p + 3) (by omega) (by omega)
  have e4 := hm (p + 4) (by omega) (by omega)
  have e5 := hm (p + 5) (by omega) (by omega)
  have e6 := hm (p + 6) (by omega) (by omega)
  have e7 := hm (p + 7) (by omega) (by omega)
  have e8 := hm (p + 8) (by omega) (by omega)
  refine ⟨h1.gr hS, by rw [e0, e0, e0, e0, e0, e0, e0, e0]; exact h2, fun s s0 s1 => by rw [e3, e3, e8]; exact h3 s s0 s1, fun s s0 s1 => by rw [e4, e5]; exact h4 s s0 s1, fun s s0 s1 => by rw [e6, e7]; exact h5 s s0 s1⟩
theorem zKR.kc {S : zS} {m : zMm} {p : Int} {K K' : Int → Int} (h : zKR S m p K) (hK : ∀ j, 0 ≤ j → j < 58 → K' j = K j) : zKR S m p K' := by
  obtain ⟨h1, h2, h3, h4, h5⟩ := h
  refine ⟨h1, ?_, fun s s0 s1 => ?_, fun s s0 s1 => ?_, fun s s0 s1 => ?_⟩
  · rw [hK 0 (by omega) (by omega), hK 1 (by omega) (by omega), hK 2 (by omega) (by omega), hK 3 (by omega) (by omega), hK 4 (by omega) (by omega), hK 5 (by omega) (by omega), hK 6 (by omega) (by omega), hK 7 (by omega) (by omega)]
    exact h2
  · rw [hK _ (by omega) (by omega), hK _ (by omega) (by omega), hK _ (by omega) (by omega)]
    exact h3 s s0 s1
  · rw [hK _ (by omega) (by omega), hK _ (by omega) (by omega)]
    exact h4 s s0 s1
  · rw [hK _ (by omega) (by omega), hK _ (by omega) (by omega)]
    exact h5 s s0 s1
theorem zKA.fr {S S2 : zS} {m m2 : zMm} {x p : Int} {K N : Int → Int} (h : zKA S m x p K N) (hS : zGr S S2) (hm : ∀ a, p ≤ a → a < p + 9 → ∀ j, m2 a j = m a j) : zKA S2 m2 x p K N :=
  ⟨h.1, h.2.1.fr hS hm, fun j j0 j1 => by rw [hm (p + 1) (by omega) (by omega)]; exact h.2.2 j j0 j1⟩
theorem zTr.fr {S S2 : zS} {m m2 : zMm} {R : Int → Int} (hS : zGr S S2) (hm : ∀ a, 12 ≤ zk S a → zk S a ≤ 16 → ∀ j, m2 a j = m a j) : ∀ {f : Nat} {k p : Int}, zTr S m R f k p → zTr S2 m2 R f k p := by
  intro f
  induction f with
  | zero => intro k p h; exact h
  | succ f ih =>
    intro k p h
    have hk : 12 ≤ zk S p ∧ zk S p ≤ 16 := by
      unfold zTr at h
      omega
    obtain ⟨g1, g2, g3⟩ := hS.2.1 p (by omega)
    have e := hm p hk.1 hk.2
    unfold zTr at h ⊢
    simp only [g1, g3, e]
    obtain ⟨hk, h⟩ := h
    refine ⟨hk, ?_⟩
    rcases h with h | h | h | h
    · exact Or.inl ⟨h.1, h.2.1, ih h.2.2⟩
    · exact Or.inr (Or.inl ⟨h.1, h.2.1, ih h.2.2.1, ih h.2.2.2⟩)
    · exact Or.inr (Or.inr (Or.inl ⟨h.1, h.2.1, ih h.2.2.1, ih h.2.2.2⟩))
    · exact Or.inr (Or.inr (Or.inr h))
theorem zTr.rc {S : zS} {m : zMm} {R R' : Int → Int} (h1 : ∀ j, 0 ≤ j → j < 240 → R' j = R j) : ∀ {f : Nat} {k p : Int}, zTr S m R f k p → zTr S m R' f k p := by
  intro f
  induction f with
  | zero => intro k p h; exact h
  | succ f ih =>
    intro k p h
    unfold zTr at h ⊢
    obtain ⟨hk, h⟩ := h
    rw [h1 (4 * k) (by omega) (by omega), h1 (4 * k + 1) (by omega) (by omega), h1 (4 * k + 2) (by omega) (by omega), h1 (4 * k + 3) (by omega) (by omega)]
    refine ⟨hk, ?_⟩
    rcases h with h | h | h | h
    · exact Or.inl ⟨h.1, h.2.1, ih h.2.2⟩
    · exact Or.inr (Or.inl ⟨h.1, h.2.1, ih h.2.2.1, ih h.2.2.2⟩)
    · exact Or.inr (Or.inr (Or.inl ⟨h.1, h.2.1, ih h.2.2.1, ih h.2.2.2⟩))
    · exact Or.inr (Or.inr (Or.inr h))
theorem zSe.fr {S S2 : zS} {m m2 : zMm} {p c : Int} {R : Int → Int} (h : zSe S m p R c) (hS : zGr S S2) (hm : ∀ a, 12 ≤ zk S a → zk S a ≤ 16 → ∀ j, m2 a j = m a j) : zSe S2 m2 p R c := by
  rcases h with h | ⟨h1, h2, h3, h4, h5⟩
  · exact Or.inl h
  · exact Or.inr ⟨h1, h2, h3, h4, zTr.fr hS hm h5⟩
theorem zSe.rc {S : zS} {m : zMm} {p c c' : Int} {R R' : Int → Int} (h : zSe S m p R c) (h1 : ∀ j, 2001 ≤ j → j < 2243 → R' (c' + j) = R (c + j)) : zSe S m p R' c' := by
  have a1 := h1 2001 (by omega) (by omega)
  have a2 := h1 2002 (by omega) (by omega)
  unfold zSe at h ⊢
  rw [a1, a2]
  rcases h with h | ⟨e1, e2, e3, e4, e5⟩
  · exact Or.inl h
  · exact Or.inr ⟨e1, e2, e3, e4, zTr.rc (fun j j0 j1 => by rw [show c' + 2003 + j = c' + (2003 + j) by omega, show c + 2003 + j = c + (2003 + j) by omega]; exact h1 _ (by omega) (by omega)) e5⟩
/-- an array as that of served (its length in 256s) -/
def zMa (S : zS) (a : Int) : Prop := zk S a = 101 ∧ ∃ e, 1 ≤ e ∧ zn S a = 256 * e
/-- a cell that is there, and no such array -/
def zOld (S : zS) (a : Int) : Prop := zk S a ≠ 0 ∧ ¬ zMa S a
theorem zOld.k {S : zS} {a : Int} {κ : Nat} (h : zk S a = κ) (h0 : κ ≠ 0 ∧ κ ≠ 101) : zOld S a := ⟨by omega, fun q => by have := q.1; omega⟩
theorem zOld.n {S : zS} {a n : Int} {κ : Nat} (h : zk S a = κ) (h0 : κ ≠ 0) (hn : zn S a = n) (h1 : n % 256 ≠ 0) : zOld S a := ⟨by omega, fun q => by obtain ⟨_, e, e1, e2⟩ := q; omega⟩
theorem zOld.c {S : zS} {a : Int} (h1 : 12 ≤ zk S a) (h2 : zk S a ≤ 16) : zOld S a := ⟨by omega, fun q => by have := q.1; omega⟩
/-- a word of the class's block that says something: fields of x; arrays -/
def rIn (k j : Int) : Prop := (k = 0 ∧ (j = 1 ∨ j = 7 ∨ j = 12 ∨ j = 13 ∨ j = 15 ∨ j = 17 ∨ j = 30 ∨ j = 32 ∨ j = 35 ∨ j = 38)) ∨ (3 ≤ k ∧ k ≤ 19) ∨ k = 1 ∨ ((k = 26 ∨ k = 27 ∨ k = 48) ∧ j = 400) ∨ k = 28 ∨ k = 29 ∨ k = 35 ∨ k = 45 ∨ k = 46 ∨ (49 ≤ k ∧ k ≤ 53)
theorem rIn_0 {j : Int} (h : j = 1 ∨ j = 7 ∨ j = 12 ∨ j = 13 ∨ j = 15 ∨ j = 17 ∨ j = 30 ∨ j = 32 ∨ j = 35 ∨ j = 38) : rIn 0 j := Or.inl ⟨rfl, h⟩
theorem rIn_a {k j : Int} (h : 3 ≤ k ∧ k ≤ 19) : rIn k j := Or.inr (Or.inl h)
theorem rIn_1 {j : Int} : rIn 1 j := Or.inr (Or.inr (Or.inl rfl))
theorem rIn_4 {k : Int} (h : k = 26 ∨ k = 27 ∨ k = 48) : rIn k 400 := Or.inr (Or.inr (Or.inr (Or.inl ⟨h, rfl⟩)))
theorem rIn_28 {j : Int} : rIn 28 j := Or.inr (Or.inr (Or.inr (Or.inr (Or.inl rfl))))
theorem rIn_29 {j : Int} : rIn 29 j := Or.inr (Or.inr (Or.inr (Or.inr (Or.inr (Or.inl rfl)))))
theorem rIn_35 {j : Int} : rIn 35 j := Or.inr (Or.inr (Or.inr (Or.inr (Or.inr (Or.inr (Or.inl rfl))))))
theorem rIn_45 {j : Int} : rIn 45 j := Or.inr (Or.inr (Or.inr (Or.inr (Or.inr (Or.inr (Or.inr (Or.inl rfl)))))))
theorem rIn_46 {j : Int} : rIn 46 j := Or.inr (Or.inr (Or.inr (Or.inr (Or.inr (Or.inr (Or.inr (Or.inr (Or.inl rfl))))))))
theorem rIn_5 {k j : Int} (h : 49 ≤ k ∧ k ≤ 53) : rIn k j := Or.inr (Or.inr (Or.inr (Or.inr (Or.inr (Or.inr (Or.inr (Or.inr (Or.inr h))))))))
theorem rTp.fr {m m2 : zMm} {x n : Int} {T : Int → Int} (h : rTp m x n T) (h0 : m2 x 1 = m x 1) (h1 : ∀ j, m2 (x + 1) j = m (x + 1) j) : rTp m2 x n T := ⟨h0.trans h.1, fun i i0 i1 => (h1 i).trans (h.2 i i0 i1)⟩
theorem rKi.fr {S S2 : zS} {m m2 : zMm} {x : Int} {K N : Int → Int} (h : rKi S m x K N) (hS : zGr S S2) (h0 : m2 x 7 = m x 7) (h1 : ∀ a, m x 7 ≤ a → a < m x 7 + 9 → ∀ j, m2 a j = m a j) : rKi S2 m2 x K N := by
  unfold rKi at h ⊢
  rw [h0]
  exact zKA.fr h hS h1
theorem rPl.fr {S S2 : zS} {m m2 : zMm} {x : Int} {R : Int → Int} (h : rPl S m x R) (hS : zGr S S2) (h1 : ∀ a, x + 14 ≤ a → a < x + 20 → ∀ j, m2 a j = m a j) : rPl S2 m2 x R := zPR.fr h hS (fun a a0 a1 j => h1 a a0 (by omega) j)
theorem rPl.rc {S : zS} {m : zMm} {x : Int} {R R' : Int → Int} (h : rPl S m x R) (h1 : ∀ j, 58 ≤ j → j < 59 + 5 * R 58 → R' j = R j) (h0 : 0 ≤ R 58) : rPl S m x R' := zPR.gc h (h1 58 (by omega) (by omega)) (fun k w k0 k1 w0 w1 => h1 _ (by omega) (by omega))
theorem zPlan.kc {S : zS} {p : Int} (h : zPlan S p) : ∀ a, p ≤ a → a < p + 6 → zOld S a := by
  intro a a0 a1
  have q : a = p ∨ a = p + 1 ∨ a = p + 2 ∨ a = p + 3 ∨ a = p + 4 ∨ a = p + 5 := by omega
  rcases q with rfl | rfl | rfl | rfl | rfl | rfl
  · exact zOld.k h.k (by decide)
  · exact zOld.n h.a300 (by decide) h.n300 (by omega)
  · exact zOld.n h.a301 (by decide) h.n301 (by omega)
  · exact zOld.n h.a302 (by decide) h.n302 (by omega)
  · exact zOld.n h.a303 (by decide) h.n303 (by omega)
  · exact zOld.n h.a304 (by decide) h.n304 (by omega)
theorem zKit.kc {S : zS} {p : Int} (h : zKit S p) : ∀ a, p ≤ a → a < p + 9 → zOld S a := by
  intro a a0 a1
  have q : a = p ∨ a = p + 1 ∨ a = p + 2 ∨ a = p + 3 ∨ a = p + 4 ∨ a = p + 5 ∨ a = p + 6 ∨ a = p + 7 ∨ a = p + 8 := by omega
  rcases q with rfl | rfl | rfl | rfl | rfl | rfl | rfl | rfl | rfl
  · exact zOld.k h.k (by decide)
  · exact zOld.k h.a200 (by decide)
  · exact zOld.k h.a201 (by decide)
  · exact zOld.n h.a202 (by decide) h.n202 (by omega)
  · exact zOld.n h.a203 (by decide) h.n203 (by omega)
  · exact zOld.n h.a204 (by decide) h.n204 (by omega)
  · exact zOld.n h.a205 (by decide) h.n205 (by omega)
  · exact zOld.n h.a206 (by decide) h.n206 (by omega)
  · exact zOld.k h.a207 (by decide)
/-- what is far behind stays -/
def zFar (S : zS) (x : Int) (m m2 : zMm) : Prop := ∀ a, x + 91 ≤ a → zOld S a → ∀ j, m2 a j = m a j
theorem rUn.fr {S S2 : zS} {m m2 : zMm} {x u : Int} {U : Int → Int} (h : rUn S m x u U) (hS : zGr S S2) (h0 : m2 x 17 = m x 17) (h1 : ∀ j, m2 (x + 29) j = m (x + 29) j) (h2 : zFar S x m m2) : rUn S2 m2 x u U := by
  obtain ⟨q0, q1, q2, q3⟩ := h
  refine ⟨h0.trans q0, fun q a b => ?_, fun q a b => ?_, fun q r a b c => by rw [h1, h1]; exact q3 q r a b c⟩
  · rw [h1]
    rcases q1 q a b with e | ⟨e, e2⟩
    · exact Or.inl e
    · exact Or.inr ⟨e, e2.gr hS⟩
  · rw [h1]
    obtain ⟨e1, e⟩ := q2 q a b
    exact ⟨e1, e.fr hS (fun c c0 c1 j => h2 c (by omega) (e.1.kc c c0 c1) j)⟩
theorem rSe.fr {S S2 : zS} {m m2 : zMm} {x : Int} {R : Int → Int} (h : rSe S m x R) (hS : zGr S S2) (h0 : m2 x 38 = m x 38) (h2 : ∀ a, 12 ≤ zk S a → zk S a ≤ 16 → ∀ j, m2 a j = m a j) : rSe S2 m2 x R := by
  unfold rSe at h ⊢
  rw [h0]
  exact h.fr hS h2
theorem rSe.rc {S : zS} {m : zMm} {x : Int} {R R' : Int → Int} (h : rSe S m x R) (h1 : ∀ j, 2059 ≤ j → j < 2301 → R' j = R j) : rSe S m x R' := zSe.rc h (fun j j0 j1 => h1 _ (by omega) (by omega))
theorem rKi.kc {S : zS} {m : zMm} {x : Int} {K K' N N' : Int → Int} (h : rKi S m x K N) (hK : ∀ j, 0 ≤ j → j < 58 → K' j = K j) (hN : ∀ j, 0 ≤ j → j < K 5 → N' j = N j) : rKi S m x K' N' :=
  ⟨h.1, h.2.1.kc hK, fun j j0 j1 => by rw [hK 5 (by omega) (by omega)] at j1; rw [hN j j0 j1]; exact h.2.2 j j0 j1⟩
theorem zKV.kc {K K' : Int → Int} (h : zKV K) (hK : ∀ j, 0 ≤ j → j < 58 → K' j = K j) : zKV K' := by
  obtain ⟨h1, h2, h3, h4⟩ := h
  refine ⟨?_, fun s s0 s1 => ?_, fun s s0 s1 => ?_, fun s s0 s1 => ?_⟩
  · rw [hK 0 (by omega) (by omega), hK 1 (by omega) (by omega), hK 2 (by omega) (by omega), hK 3 (by omega) (by omega), hK 4 (by omega) (by omega), hK 5 (by omega) (by omega), hK 6 (by omega) (by omega), hK 7 (by omega) (by omega)]
    exact h1
  · rw [hK (8 + 3 * s + 0) (by omega) (by omega), hK (8 + 3 * s + 1) (by omega) (by omega), hK (8 + 3 * s + 2) (by omega) (by omega), hK 5 (by omega) (by omega)]
    exact h2 s s0 s1
  · rw [hK (32 + 2 * s + 0) (by omega) (by omega), hK (32 + 2 * s + 1) (by omega) (by omega)]
    exact h3 s s0 s1
  · rw [hK (48 + 2 * s + 0) (by omega) (by omega), hK (48 + 2 * s + 1) (by omega) (by omega), hK 7 (by omega) (by omega)]
    exact h4 s s0 s1
theorem zGV.gc {n n' : Int} {g g' : zGo} (h : zGV n g) (hn : n' = n) (hg : ∀ k w, 0 ≤ k → k < n → 0 ≤ w → w < 5 → g' k w = g k w) : zGV n' g' := by
  obtain ⟨h1, h2, h3⟩ := h
  refine ⟨by omega, by omega, fun k k0 k1 => ?_⟩
  rw [hg k 0 k0 (by omega) (by omega) (by omega), hg k 1 k0 (by omega) (by omega) (by omega), hg k 2 k0 (by omega) (by omega) (by omega), hg k 3 k0 (by omega) (by omega) (by omega), hg k 4 k0 (by omega) (by omega) (by omega)]
  exact h3 k k0 (by omega)
theorem vPl.rc {R R' : Int → Int} (h : vPl R) (h1 : ∀ j, 58 ≤ j → j < 59 + 5 * R 58 → R' j = R j) : vPl R' := zGV.gc h (h1 58 (by omega) (by have := h.1; omega)) (fun k w k0 k1 w0 w1 => h1 _ (by omega) (by omega))
theorem vKi.kc {K K' N N' : Int → Int} (h : vKi K N) (hK : ∀ j, 0 ≤ j → j < 58 → K' j = K j) (hN : ∀ j, 0 ≤ j → j < K 5 → N' j = N j) : vKi K' N' :=
  ⟨h.1.kc hK, fun j j0 j1 => by rw [hK 5 (by omega) (by omega)] at j1; rw [hN j j0 j1]; exact h.2 j j0 j1⟩
theorem rIm.fr {S S2 : zS} {m m2 : zMm} {x : Int} {F R N : Int → Int} (h : rIm S m x F R N) (hS : zGr S S2) (hb : ∀ a, x + 5 ≤ a → a < x + 14 → ∀ j, m2 a j = m a j) (h1 : ∀ j, m2 (x + 51) j = m (x + 51) j) (h2 : ∀ j, m2 (x + 52) j = m (x + 52) j) (h3 : ∀ j, m2 (x + 53) j = m (x + 53) j) (h9 : ∀ j, m2 (x + 29) j = m (x + 29) j) (hf : zFar S x m m2) (hc : ∀ a, 12 ≤ zk S a → zk S a ≤ 16 → ∀ j, m2 a j = m a j) : rIm S2 m2 x F R N := by
  obtain ⟨q1, q2, q3⟩ := h
  refine ⟨fun i a b => ?_, by rw [h2, h2]; exact q2, fun q i a b c d => by rw [h9, h2]; exact q3 q i a b c d⟩
  rw [h1, h2, h3]
  rcases q1 i a b with e | ⟨e1, e2, e3, e4, e5⟩
  · exact Or.inl e
  · refine Or.inr ⟨e1, e2, e3.fr hS (fun c c0 c1 j => hf c (by omega) (e3.1.kc c c0 c1) j), e4.fr hS (fun c c0 c1 j => ?_), e5.fr hS hc⟩
    rcases e4.1 with q | q
    · exact hb c (by omega) (by omega) j
    · exact hf c (by omega) (e4.2.1.1.kc c c0 c1) j
/-- the kitchen now stays where the old one and what is far behind stay -/
theorem rKi.fr2 {S S2 : zS} {m m2 : zMm} {x : Int} {K N : Int → Int} (h : rKi S m x K N) (hS : zGr S S2) (h0 : m2 x 7 = m x 7) (hb : ∀ a, x + 5 ≤ a → a < x + 14 → ∀ j, m2 a j = m a j) (hf : zFar S x m m2) : rKi S2 m2 x K N := by
  refine h.fr hS h0 (fun c c0 c1 j => ?_)
  rcases h.1 with q | q
  · exact hb c (by omega) (by omega) j
  · exact hf c (by omega) (h.2.1.1.kc c c0 c1) j
theorem rTx.fr {m m2 : zMm} {x n : Int} {T : Int → Int} (h : rTx m x n T) (h0 : m2 x 15 = m x 15) (h1 : ∀ j, m2 (x + 28) j = m (x + 28) j) : rTx m2 x n T := ⟨h0.trans h.1, fun i i0 i1 => (h1 i).trans (h.2 i i0 i1)⟩
theorem rSv.fr {m m2 : zMm} {x n : Int} {V : Int → Int} (h : rSv m x n V) (h0 : m2 x 32 = m x 32) (h1 : ∀ j, m2 (x + 45) j = m (x + 45) j) : rSv m2 x n V := ⟨by rw [h0]; exact h.1, fun i i0 i1 => (h1 i).trans (h.2 i i0 i1)⟩
theorem rPn.fr {m m2 : zMm} {x n : Int} {V : Int → Int} (h : rPn m x n V) (h0 : m2 x 35 = m x 35) (h1 : ∀ j, m2 (x + 46) j = m (x + 46) j) : rPn m2 x n V := ⟨by rw [h0]; exact h.1, fun i i0 i1 => (h1 i).trans (h.2 i i0 i1)⟩
theorem rMo.fr {S S2 : zS} {m m2 : zMm} {x : Int} (h : rMo S m x) (hS : zGr S S2) (h0 : m2 x 30 = m x 30) : rMo S2 m2 x := by
  obtain ⟨h1, h2, e, h3, h4⟩ := h
  have g := hS.2.1 (m x 30) (by omega)
  unfold rMo
  rw [h0]
  exact ⟨g.1.trans h1, h2, e, h3, g.2.1.trans h4⟩
theorem rCs.fr {m m2 : zMm} {x : Int} (h : rCs m x) (h0 : m2 (x + 26) 400 = m (x + 26) 400) (h1 : m2 (x + 27) 400 = m (x + 27) 400) (h2 : m2 (x + 48) 400 = m (x + 48) 400) (h3 : ∀ j, m2 (x + 35) j = m (x + 35) j) : rCs m2 x := by
  unfold rCs at h ⊢
  rw [h0, h1, h2, h3, h3, h3]
  exact h
