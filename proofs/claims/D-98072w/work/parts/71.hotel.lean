/-! HOTELS: the table of least costs (F: far) -/
def hRow (u : Int → Int) (s c F : Int) : Nat → Int → Int
  | 0, _ => F
  | f + 1, v => if v = 0 then min (u 0) F else min (u v) (hRow u s c F f (max 0 (v - s)) + c)
theorem hRow_f {u : Int → Int} {s c F : Int} (hs : 1 ≤ s) : ∀ (f g : Nat) (v : Int), 0 ≤ v → v < f → v < g → hRow u s c F f v = hRow u s c F g v := by
  intro f
  induction f with
  | zero => intro g v h0 h1; omega
  | succ f ih =>
    intro g v h0 h1 h2
    cases g with
    | zero => omega
    | succ g =>
      unfold hRow
      by_cases h : v = 0
      · rw [if_pos h, if_pos h]
      · rw [if_neg h, if_neg h, ih g (max 0 (v - s)) (by omega) (by omega) (by omega)]
/-- the j-th row from below: sorts ns - j, ns - j + 1 .. are there -/
def hTb (F : Int) (K : Int → Int) (ns : Int) : Nat → Int → Int
  | 0, v => if v = 0 then 0 else F
  | j + 1, v => hRow (hTb F K ns j) (K (48 + 2 * (ns - 1 - (j : Int)) + 0)) (K (48 + 2 * (ns - 1 - (j : Int)) + 1)) F (v.toNat + 1) v
theorem hTb_z {F : Int} {K : Int → Int} {ns : Int} {j : Nat} : hTb F K ns (j + 1) 0 = min (hTb F K ns j 0) F := rfl
theorem hTb_s {F : Int} {K : Int → Int} {ns v : Int} {j : Nat} (hs : 1 ≤ K (48 + 2 * (ns - 1 - (j : Int)) + 0)) (hv : 0 < v) :
    hTb F K ns (j + 1) v = min (hTb F K ns j v) (hTb F K ns (j + 1) (max 0 (v - K (48 + 2 * (ns - 1 - (j : Int)) + 0))) + K (48 + 2 * (ns - 1 - (j : Int)) + 1)) := by
  show hRow _ _ _ _ (v.toNat + 1) v = min _ (hRow _ _ _ _ ((max 0 (v - K (48 + 2 * (ns - 1 - (j : Int)) + 0))).toNat + 1) (max 0 (v - K (48 + 2 * (ns - 1 - (j : Int)) + 0))) + _)
  conv => lhs; unfold hRow
  rw [if_neg (by omega), hRow_f hs v.toNat ((max 0 (v - K (48 + 2 * (ns - 1 - (j : Int)) + 0))).toNat + 1) (max 0 (v - K (48 + 2 * (ns - 1 - (j : Int)) + 0))) (by omega) (by omega) (by omega)]
theorem hRow_F {u u' : Int → Int} {s c F G : Int} (hs : 1 ≤ s) (hc : 0 ≤ c ∧ c ≤ 99) (hF : 999999 ≤ F) (hG : 999999 ≤ G)
    (hu : ∀ v, 0 ≤ v → v ≤ 200 → (v = 0 → u v = 0 ∧ u' v = 0) ∧ ((u v = u' v ∧ 0 ≤ u v) ∨ (999999 ≤ u v ∧ 999999 ≤ u' v))) :
    ∀ (f : Nat) (v : Int), 0 ≤ v → v ≤ 200 → v < f → hRow u s c F f v = hRow u' s c G f v ∧ 0 ≤ hRow u s c F f v ∧ hRow u s c F f v ≤ 99 * v := by
  intro f
  induction f with
  | zero => intro v h0 h1 h2; omega
  | succ f ih =>
    intro v h0 h1 h2
    unfold hRow
    have q := hu v h0 h1
    by_cases h : v = 0
    · rw [if_pos h, if_pos h]
      have q2 := q.1 h
      rw [h] at q2
      omega
    · rw [if_neg h, if_neg h]
      have e := ih (max 0 (v - s)) (by omega) (by omega) (by omega)
      omega
/-- no row but the lowest knows how far far is -/
theorem hTb_F {F G : Int} {K : Int → Int} {ns : Int} (hK : zKV K) (hn : ns = K 7) (hF : 999999 ≤ F) (hG : 999999 ≤ G) : ∀ j : Nat, (j : Int) ≤ ns → 1 ≤ j → ∀ v, 0 ≤ v → v ≤ 200 → hTb F K ns j v = hTb G K ns j v ∧ 0 ≤ hTb F K ns j v ∧ hTb F K ns j v ≤ 99 * v := by
  intro j
  induction j with
  | zero => intro _ h; omega
  | succ j ih =>
    intro hj _ v v0 v1
    have hk := hK.2.2.2 (ns - 1 - (j : Int)) (by omega) (by have := hK.1; omega)
    have hk5 := hK.1
    have hk1 := hk.2.2.2.2 (by omega)
    refine hRow_F (u := hTb F K ns j) (u' := hTb G K ns j) (by omega) (by omega) hF hG (fun w w0 w1 => ?_) (v.toNat + 1) v v0 v1 (by omega)
    cases j with
    | zero =>
      show (w = 0 → (if w = 0 then 0 else F) = 0 ∧ (if w = 0 then 0 else G) = 0) ∧ (((if w = 0 then 0 else F) = (if w = 0 then 0 else G) ∧ (0 : Int) ≤ (if w = 0 then 0 else F)) ∨ _)
      by_cases h : w = 0
      · rw [if_pos h, if_pos h]
        exact ⟨fun _ => ⟨rfl, rfl⟩, Or.inl ⟨rfl, Int.le_refl _⟩⟩
      · show _ ∧ (_ ∨ (999999 ≤ (if w = 0 then 0 else F) ∧ 999999 ≤ (if w = 0 then 0 else G)))
        rw [if_neg h, if_neg h]
        exact ⟨fun q => absurd q h, Or.inr ⟨hF, hG⟩⟩
    | succ j =>
      have e := ih (by omega) (by omega) w w0 w1
      omega
theorem hTb_0 {F : Int} {K : Int → Int} {ns : Int} (hF : 0 ≤ F) : ∀ j : Nat, hTb F K ns j 0 = 0 := by
  intro j
  induction j with
  | zero => rfl
  | succ j ih => rw [hTb_z, ih]; omega
/-- how many of a sort: what is still to be had, how many -/
noncomputable def hGo (U C : Int → Int) (s : Int) : Nat → Int → Int → Int × Int
  | 0, l, p => (l, p)
  | f + 1, l, p => if U l = C l then (l, p) else hGo U C s f (max 0 (l - s)) (p + 1)
theorem hGo_0 {U C : Int → Int} {s l p : Int} {f : Nat} (h : U l = C l) : hGo U C s f l p = (l, p) := by
  cases f with
  | zero => rfl
  | succ f => unfold hGo; rw [if_pos h]
theorem hGo_1 {U C : Int → Int} {s l p : Int} {f : Nat} (h : U l ≠ C l) : hGo U C s (f + 1) l p = hGo U C s f (max 0 (l - s)) (p + 1) := by
  conv => lhs; unfold hGo
  rw [if_neg h]
theorem hGo_c {U C U' C' : Int → Int} {s : Int} (hs : 1 ≤ s) (h : ∀ l, 0 ≤ l → l ≤ 200 → (U l = C l ↔ U' l = C' l)) : ∀ (f : Nat) (l p : Int), 0 ≤ l → l ≤ 200 → hGo U C s f l p = hGo U' C' s f l p := by
  intro f
  induction f with
  | zero => intro l p _ _; rfl
  | succ f ih =>
    intro l p h0 h1
    unfold hGo
    by_cases q : U l = C l
    · rw [if_pos q, if_pos ((h l h0 h1).mp q)]
    · rw [if_neg q, if_neg (fun z => q ((h l h0 h1).mpr z)), ih _ _ (by omega) (by omega)]
theorem hGo_b {U C : Int → Int} {s : Int} (hs : 1 ≤ s) : ∀ (f : Nat) (l p : Int), 0 ≤ l → l ≤ 200 → 0 ≤ p → 0 ≤ (hGo U C s f l p).1 ∧ (hGo U C s f l p).1 ≤ l ∧ 0 ≤ (hGo U C s f l p).2 ∧ (hGo U C s f l p).2 ≤ p + f := by
  intro f
  induction f with
  | zero => intro l p h0 h1 h2; exact ⟨h0, Int.le_refl _, h2, by show p ≤ p + ((0 : Nat) : Int); omega⟩
  | succ f ih =>
    intro l p h0 h1 h2
    unfold hGo
    by_cases q : U l = C l
    · rw [if_pos q]; exact ⟨h0, Int.le_refl _, h2, by show p ≤ p + ((f + 1 : Nat) : Int); omega⟩
    · rw [if_neg q]
      have := ih (max 0 (l - s)) (p + 1) (by omega) (by omega) (by omega)
      omega
/-- sort k, from l on -/
noncomputable def hSt (F : Int) (K : Int → Int) (ns : Int) (k l : Int) : Int × Int := hGo (hTb F K ns (ns - 1 - k).toNat) (hTb F K ns (ns - k).toNat) (K (48 + 2 * k + 0)) 201 l 0
noncomputable def hLf (F : Int) (K : Int → Int) (ns need : Int) : Nat → Int
  | 0 => need
  | k + 1 => (hSt F K ns (k : Int) (hLf F K ns need k)).1
noncomputable def hPn (F : Int) (K : Int → Int) (ns need k : Int) : Int := (hSt F K ns k (hLf F K ns need k.toNat)).2
theorem hSt_F {F G : Int} {K : Int → Int} {ns k l : Int} (hK : zKV K) (hn : ns = K 7) (hF : 999999 ≤ F) (hG : 999999 ≤ G) (k0 : 0 ≤ k) (k1 : k < ns) (l0 : 0 ≤ l) (l1 : l ≤ 200) : hSt F K ns k l = hSt G K ns k l := by
  have hk := (hK.2.2.2 k k0 (by have := hK.1; omega)).2.2.2.2 (by omega)
  refine hGo_c hk.1 (fun v v0 v1 => ?_) 201 l 0 l0 l1
  have e := hTb_F hK hn hF hG (ns - k).toNat (by omega) (by omega) v v0 v1
  by_cases h : k = ns - 1
  · rw [show (ns - 1 - k).toNat = 0 by omega]
    have z1 := hTb_0 (F := F) (K := K) (ns := ns) (by omega) (ns - k).toNat
    have z2 := hTb_0 (F := G) (K := K) (ns := ns) (by omega) (ns - k).toNat
    show (if v = 0 then 0 else F) = _ ↔ (if v = 0 then 0 else G) = _
    by_cases q : v = 0
    · rw [if_pos q, if_pos q, q, z1, z2]
    · rw [if_neg q, if_neg q]
      constructor <;> (intro; omega)
  · have e2 := hTb_F hK hn hF hG (ns - 1 - k).toNat (by omega) (by omega) v v0 v1
    rw [e.1, e2.1]
theorem hLf_b {F : Int} {K : Int → Int} {ns need : Int} (hK : zKV K) (hn : ns = K 7) (h0 : 0 ≤ need) (h1 : need ≤ 200) : ∀ k : Nat, (k : Int) ≤ ns → 0 ≤ hLf F K ns need k ∧ hLf F K ns need k ≤ need := by
  intro k
  induction k with
  | zero => intro _; exact ⟨h0, Int.le_refl _⟩
  | succ k ih =>
    intro hk
    have e := ih (by omega)
    have hs := (hK.2.2.2 (k : Int) (by omega) (by have := hK.1; omega)).2.2.2.2 (by omega)
    have q := hGo_b (U := hTb F K ns (ns - 1 - (k : Int)).toNat) (C := hTb F K ns (ns - (k : Int)).toNat) hs.1 201 (hLf F K ns need k) 0 e.1 (by omega) (by omega)
    exact ⟨q.1, by have := q.2.1; show (hSt F K ns (k : Int) (hLf F K ns need k)).1 ≤ need; unfold hSt; omega⟩
theorem hLf_F {F G : Int} {K : Int → Int} {ns need : Int} (hK : zKV K) (hn : ns = K 7) (hF : 999999 ≤ F) (hG : 999999 ≤ G) (h0 : 0 ≤ need) (h1 : need ≤ 200) : ∀ k : Nat, (k : Int) ≤ ns → hLf F K ns need k = hLf G K ns need k := by
  intro k
  induction k with
  | zero => intro _; rfl
  | succ k ih =>
    intro hk
    have e := ih (by omega)
    have b := hLf_b (F := F) hK hn h0 h1 k (by omega)
    show (hSt F K ns (k : Int) (hLf F K ns need k)).1 = (hSt G K ns (k : Int) (hLf G K ns need k)).1
    rw [← e, hSt_F hK hn hF hG (by omega) (by omega) b.1 (by omega)]
theorem hPn_F {F G : Int} {K : Int → Int} {ns need k : Int} (hK : zKV K) (hn : ns = K 7) (hF : 999999 ≤ F) (hG : 999999 ≤ G) (h0 : 0 ≤ need) (h1 : need ≤ 200) (k0 : 0 ≤ k) (k1 : k < ns) : hPn F K ns need k = hPn G K ns need k := by
  have b := hLf_b (F := F) hK hn h0 h1 k.toNat (by omega)
  unfold hPn
  rw [← hLf_F hK hn hF hG h0 h1 k.toNat (by omega), hSt_F hK hn hF hG k0 k1 b.1 (by omega)]
