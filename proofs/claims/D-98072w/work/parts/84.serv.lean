/-! GUESTS: the table of most worth, from the last end on -/
def fWo (K : Int → Int) (g t : Int) : Int := if t - K (32 + 2 * g + 0) < -K 2 then 0 else max 0 (K (32 + 2 * g + 1) - max 0 (t - K (32 + 2 * g + 0)))
theorem fWo_b {K : Int → Int} {g t : Int} (hk : zKV K) (g0 : 0 ≤ g) (g1 : g < 8) : 0 ≤ fWo K g t ∧ fWo K g t ≤ 99 := by
  have h := hk.2.2.1 g g0 g1
  unfold fWo
  split <;> omega
noncomputable def fWs (K : Int → Int) (o t : Int) : Int → Int := zs (fun g => zite (zbit o g) (fWo K g t) 0)
theorem fWs_b {K : Int → Int} {o t n : Int} (hk : zKV K) (n0 : 0 ≤ n) (n1 : n ≤ 8) : 0 ≤ fWs K o t n ∧ fWs K o t n ≤ n * 99 := zs_b n0 (fun g a b => by
  have := fWo_b (t := t) hk a (show g < 8 by omega)
  by_cases h : zbit o g
  · rw [zite_t h]; exact this
  · rw [zite_f h]; omega)
theorem fWs_0 {K : Int → Int} {t n : Int} (n0 : 0 ≤ n) : fWs K 0 t n = 0 := by
  obtain ⟨n, rfl⟩ := Int.eq_ofNat_of_zero_le n0
  clear n0
  induction n with
  | zero => rfl
  | succ n ih =>
    unfold fWs at ih ⊢
    rw [show ((n + 1 : Nat) : Int) = (n : Int) + 1 by omega, zs_s (by omega), ih, zite_f (zbit_0 _)]
    rfl
/-- behind minute 340 nothing is worth anything -/
theorem fWs_l {K : Int → Int} {o t n : Int} (hk : zKV K) (n0 : 0 ≤ n) (n1 : n ≤ 8) (ht : 340 ≤ t) : fWs K o t n = 0 := by
  have key : ∀ k : Nat, (k : Int) ≤ 8 → fWs K o t (k : Int) = 0 := by
    intro k
    induction k with
    | zero => intro _; rfl
    | succ k ih =>
      intro hk2
      have e := ih (by omega)
      have h := hk.2.2.1 (k : Int) (by omega) (by omega)
      have hw : fWo K (k : Int) t = 0 := by unfold fWo; split <;> omega
      unfold fWs at e ⊢
      rw [show ((k + 1 : Nat) : Int) = (k : Int) + 1 by omega, zs_s (by omega), e, hw]
      by_cases q : zbit o (k : Int)
      · rw [zite_t q]; rfl
      · rw [zite_f q]; rfl
  have e := key n.toNat (by omega)
  rw [show ((n.toNat : Nat) : Int) = n by omega] at e
  exact e
/-- the most over all sets of some of the free ones, from o down -/
def sCh (v : Int → Int) (p f : Int) : Nat → Int → Int → Int
  | 0, _, a => a
  | q + 1, o, a => if o = 0 then (if fPc o ≤ p then max a (v o) else a) else sCh v p f q (zand (o - 1) f) (if fPc o ≤ p then max a (v o) else a)
theorem sCh_0 {v : Int → Int} {p f o a : Int} {q : Nat} (h : o = 0) : sCh v p f (q + 1) o a = (if fPc o ≤ p then max a (v o) else a) := by
  conv => lhs; unfold sCh
  rw [if_pos h]
theorem sCh_1 {v : Int → Int} {p f o a : Int} {q : Nat} (h : o ≠ 0) : sCh v p f (q + 1) o a = sCh v p f q (zand (o - 1) f) (if fPc o ≤ p then max a (v o) else a) := by
  conv => lhs; unfold sCh
  rw [if_neg h]
/-- what comes out is what was there, or the worth of some set of free ones -/
theorem sCh_x {v : Int → Int} {p f : Int} (f0 : 0 ≤ f) (f1 : f < 1024) : ∀ (q : Nat) (o a : Int), 0 ≤ o → o < 1024 → fSu o f → (sCh v p f q o a = a ∨ ∃ s, 0 ≤ s ∧ s < 1024 ∧ fSu s f ∧ fPc s ≤ p ∧ sCh v p f q o a = v s) ∧ a ≤ sCh v p f q o a := by
  intro q
  induction q with
  | zero => intro o a _ _ _; exact ⟨Or.inl rfl, Int.le_refl _⟩
  | succ q ih =>
    intro o a o0 o1 ho
    have hm : ∀ z : Int, z = (if fPc o ≤ p then max a (v o) else a) → (z = a ∨ (fPc o ≤ p ∧ z = v o)) ∧ a ≤ z := fun z hz => by
      by_cases h : fPc o ≤ p
      · rw [if_pos h] at hz
        refine ⟨?_, by omega⟩
        rcases Int.lt_or_le a (v o) with k | k
        · exact Or.inr ⟨h, by omega⟩
        · exact Or.inl (by omega)
      · rw [if_neg h] at hz
        exact ⟨Or.inl hz, by omega⟩
    by_cases e : o = 0
    · rw [sCh_0 e]
      have hz := hm _ rfl
      refine ⟨?_, hz.2⟩
      rcases hz.1 with k | k
      · exact Or.inl k
      · exact Or.inr ⟨o, o0, o1, ho, k.1, k.2⟩
    · rw [sCh_1 e]
      have n := fNx (o := o) (f := f) (by omega) o1 f0 f1
      have hz := hm _ rfl
      have r := ih (zand (o - 1) f) (if fPc o ≤ p then max a (v o) else a) n.1 (by omega) n.2.2
      refine ⟨?_, Int.le_trans hz.2 r.2⟩
      rcases r.1 with k | k
      · rcases hz.1 with k2 | k2
        · exact Or.inl (k.trans k2)
        · exact Or.inr ⟨o, o0, o1, ho, k2.1, k.trans k2.2⟩
      · exact Or.inr k
theorem sCh_c {v v' : Int → Int} {p f : Int} (f0 : 0 ≤ f) (f1 : f < 1024) (h : ∀ o, 0 ≤ o → o < 1024 → fSu o f → v o = v' o) : ∀ (q : Nat) (o a : Int), 0 ≤ o → o < 1024 → fSu o f → sCh v p f q o a = sCh v' p f q o a := by
  intro q
  induction q with
  | zero => intro o a _ _ _; rfl
  | succ q ih =>
    intro o a o0 o1 ho
    by_cases e : o = 0
    · rw [sCh_0 e, sCh_0 e, h o o0 o1 ho]
    · have n := fNx (o := o) (f := f) (by omega) o1 f0 f1
      rw [sCh_1 e, sCh_1 e, h o o0 o1 ho]
      exact ih _ _ n.1 (by omega) n.2.2
/-- all zero stays zero -/
theorem sCh_z {v : Int → Int} {p f : Int} (h : ∀ o, v o = 0) : ∀ (q : Nat) (o : Int), sCh v p f q o 0 = 0 := by
  intro q
  induction q with
  | zero => intro o; rfl
  | succ q ih =>
    intro o
    have e : (if fPc o ≤ p then max 0 (v o) else 0) = 0 := by rw [h]; split <;> rfl
    by_cases q0 : o = 0
    · rw [sCh_0 q0, e]
    · rw [sCh_1 q0, e]; exact ih _
/-- all guests -/
def sAl (K : Int → Int) : Int := 1 * 2 ^ (K 6).toNat - 1
theorem sAl_b {K : Int → Int} (hk : zKV K) : 0 ≤ sAl K ∧ sAl K ≤ 255 := by
  have h := hk.1
  unfold sAl
  rcases (by omega : K 6 = 0 ∨ K 6 = 1 ∨ K 6 = 2 ∨ K 6 = 3 ∨ K 6 = 4 ∨ K 6 = 5 ∨ K 6 = 6 ∨ K 6 = 7 ∨ K 6 = 8) with e | e | e | e | e | e | e | e | e <;> rw [e] <;> decide
/-- the row j ends from below of E ends, each of u minutes -/
noncomputable def sTb (K : Int → Int) (u E : Int) : Nat → Int → Int
  | 0, _ => 0
  | j + 1, had => sCh (fun o => fWs K o (u * (E - (j : Int))) (K 6) + sTb K u E j (zor had o)) (K 0) (zand (sAl K) (zxor had (-1))) 1024 (zand (sAl K) (zxor had (-1))) 0
theorem sTb_b {K : Int → Int} {u E : Int} (hk : zKV K) : ∀ (j : Nat) (had : Int), 0 ≤ had → had ≤ 255 → fSu had (sAl K) → 0 ≤ sTb K u E j had ∧ sTb K u E j had ≤ (j : Int) * 800 := by
  intro j
  have hA := sAl_b hk
  have h6 := hk.1
  induction j with
  | zero => intro had _ _ _; exact ⟨Int.le_refl _, Int.le_refl _⟩
  | succ j ih =>
    intro had h0 h1 hs
    have f := fFr (s := had) (g := sAl K) h0 (by omega) hA.1 (by omega)
    have x := sCh_x (v := fun o => fWs K o (u * (E - (j : Int))) (K 6) + sTb K u E j (zor had o)) (p := K 0) f.1 f.2.1 1024 (zand (sAl K) (zxor had (-1))) 0 f.1 f.2.1 (by unfold fSu; obtain ⟨z, hz⟩ := Int.eq_ofNat_of_zero_le f.1; rw [hz, zand_nat (by omega) (by omega), Nat.and_self])
    show 0 ≤ sCh _ _ _ _ _ _ ∧ sCh _ _ _ _ _ _ ≤ _
    refine ⟨x.2, ?_⟩
    rcases x.1 with e | ⟨s, s0, s1, hsf, _, e⟩
    · rw [e]; omega
    · rw [e]
      have o := fOr h0 (by omega) s0 s1 hA.1 (by omega) hs (fSu_tr s0 s1 f.1 f.2.1 hA.1 (by omega) hsf f.2.2)
      have i := ih (zor had s) o.1 (by omega) o.2.2
      have w := fWs_b (o := s) (t := u * (E - (j : Int))) hk (n := K 6) (by omega) (by omega)
      show fWs K s (u * (E - (j : Int))) (K 6) + sTb K u E j (zor had s) ≤ _
      omega
/-- an end more behind minute 340 changes nothing -/
theorem sTb_e {K : Int → Int} {u E : Int} (hk : zKV K) (hE : 340 ≤ u * (E + 1)) : ∀ (j : Nat) (had : Int), 0 ≤ had → had ≤ 255 → fSu had (sAl K) → sTb K u (E + 1) (j + 1) had = sTb K u E j had := by
  intro j
  have hA := sAl_b hk
  have h6 := hk.1
  induction j with
  | zero =>
    intro had h0 h1 hs
    show sCh (fun o => fWs K o (u * (E + 1 - ((0 : Nat) : Int))) (K 6) + 0) _ _ _ _ _ = 0
    refine sCh_z (fun o => ?_) _ _
    show fWs K o (u * (E + 1 - ((0 : Nat) : Int))) (K 6) + 0 = 0
    rw [show E + 1 - ((0 : Nat) : Int) = E + 1 by omega, fWs_l hk (by omega) (by omega) hE]
    rfl
  | succ j ih =>
    intro had h0 h1 hs
    have f := fFr (s := had) (g := sAl K) h0 (by omega) hA.1 (by omega)
    have ff : fSu (zand (sAl K) (zxor had (-1))) (zand (sAl K) (zxor had (-1))) := by unfold fSu; obtain ⟨z, hz⟩ := Int.eq_ofNat_of_zero_le f.1; rw [hz, zand_nat (by omega) (by omega), Nat.and_self]
    refine sCh_c f.1 f.2.1 (fun o o0 o1 ho => ?_) 1024 _ _ f.1 f.2.1 ff
    have oo := fOr h0 (by omega) o0 o1 hA.1 (by omega) hs (fSu_tr o0 o1 f.1 f.2.1 hA.1 (by omega) ho f.2.2)
    show fWs K o (u * (E + 1 - ((j + 1 : Nat) : Int))) (K 6) + sTb K u (E + 1) (j + 1) (zor had o) = fWs K o (u * (E - (j : Int))) (K 6) + sTb K u E j (zor had o)
    rw [ih (zor had o) oo.1 (by omega) oo.2.2, show E + 1 - ((j + 1 : Nat) : Int) = E - (j : Int) by omega]
/-- the first set that gives the most at end e; those that had it already -/
def sOk (K : Int → Int) (u E e had o : Int) : Prop := zand o had = 0 ∧ fPc o ≤ K 0 ∧ fWs K o (u * (e + 1)) (K 6) + sTb K u E (E - (e + 1)).toNat (zor had o) = sTb K u E (E - e).toNat had
noncomputable def sPk (K : Int → Int) (u E e had : Int) : Int := zfi (sOk K u E e had) (sAl K + 1)
theorem fSu_al {K : Int → Int} {o : Int} (hk : zKV K) (o0 : 0 ≤ o) (o1 : o ≤ sAl K) : fSu o (sAl K) := by
  have hA := sAl_b hk
  have h6 := hk.1
  obtain ⟨n, hn⟩ := Int.eq_ofNat_of_zero_le (show 0 ≤ K 6 by omega)
  obtain ⟨o, rfl⟩ := Int.eq_ofNat_of_zero_le o0
  have e : sAl K = ((2 ^ n - 1 : Nat) : Int) := by
    unfold sAl
    rw [hn, zpw_nat]
    have : 0 < 2 ^ n := Nat.pow_pos (by omega)
    omega
  rw [e] at o1 hA ⊢
  refine (fSu_n (by omega) (by omega)).mpr ?_
  rw [Nat.and_two_pow_sub_one_eq_mod]
  exact Nat.mod_eq_of_lt (by have : 0 < 2 ^ n := Nat.pow_pos (by omega); omega)
theorem sPk_i {K : Int → Int} {u E e had : Int} (hk : zKV K) (e0 : 0 ≤ e) (e1 : e < E) (h0 : 0 ≤ had) (h1 : had ≤ 255) (hs : fSu had (sAl K)) :
    ∃ s, 0 ≤ s ∧ s < 256 ∧ fSu s (sAl K) ∧ sOk K u E e had s := by
  have hA := sAl_b hk
  have h6 := hk.1
  have f := fFr (s := had) (g := sAl K) h0 (by omega) hA.1 (by omega)
  have ff : fSu (zand (sAl K) (zxor had (-1))) (zand (sAl K) (zxor had (-1))) := by unfold fSu; obtain ⟨z, hz⟩ := Int.eq_ofNat_of_zero_le f.1; rw [hz, zand_nat (by omega) (by omega), Nat.and_self]
  obtain ⟨j, hj⟩ : ∃ j : Nat, (E - e).toNat = j + 1 := ⟨(E - e).toNat - 1, by omega⟩
  have ej : (E - (e + 1)).toNat = j := by omega
  have ee : E - (j : Int) = e + 1 := by omega
  have x := sCh_x (v := fun o => fWs K o (u * (E - (j : Int))) (K 6) + sTb K u E j (zor had o)) (p := K 0) f.1 f.2.1 1024 (zand (sAl K) (zxor had (-1))) 0 f.1 f.2.1 ff
  have dis : ∀ s, 0 ≤ s → s < 1024 → fSu s (zand (sAl K) (zxor had (-1))) → zand s had = 0 := fun s s0 s1 hsf => by
    obtain ⟨s, rfl⟩ := Int.eq_ofNat_of_zero_le s0
    obtain ⟨d, rfl⟩ := Int.eq_ofNat_of_zero_le h0
    obtain ⟨g, hg⟩ := Int.eq_ofNat_of_zero_le hA.1
    rw [hg, zandn_nat (by omega) (by omega)] at hsf
    have hlt : g ^^^ (g &&& d) < 2 ^ 10 := Nat.xor_lt_two_pow (by omega) (Nat.lt_of_le_of_lt Nat.and_le_left (show g < 2 ^ 10 by omega))
    have q := (fSu_n (by omega) (by omega)).mp hsf
    rw [zand_nat (by omega) (by omega)]
    have z : s &&& d = 0 := by
      rw [← q]
      refine Nat.eq_of_testBit_eq (fun i => ?_)
      rw [Nat.testBit_and, Nat.testBit_and, Nat.testBit_xor, Nat.testBit_and, Nat.zero_testBit]
      cases s.testBit i <;> cases g.testBit i <;> cases d.testBit i <;> rfl
    rw [z]
    rfl
  have done : ∀ s, 0 ≤ s → s < 1024 → fSu s (zand (sAl K) (zxor had (-1))) → fPc s ≤ K 0 → sTb K u E (j + 1) had = fWs K s (u * (E - (j : Int))) (K 6) + sTb K u E j (zor had s) → ∃ s, 0 ≤ s ∧ s < 256 ∧ fSu s (sAl K) ∧ sOk K u E e had s := fun s s0 s1 hsf hp hv => by
    have h2 := fSu_tr s0 s1 f.1 f.2.1 hA.1 (by omega) hsf f.2.2
    have h3 := fSu_le s0 s1 hA.1 (by omega) h2
    refine ⟨s, s0, by omega, h2, dis s s0 s1 hsf, hp, ?_⟩
    rw [hj, ej, hv, ee]
  rcases x.1 with q | ⟨s, s0, s1, hsf, hp, q⟩
  · -- nothing is worth more than nothing: the empty set does
    have b := sTb_b (u := u) (E := E) hk j (zor had 0) (by rw [zor_0 ⟨by omega, by omega⟩]; exact h0) (by rw [zor_0 ⟨by omega, by omega⟩]; exact h1) (by rw [zor_0 ⟨by omega, by omega⟩]; exact hs)
    have hv : ∀ (r : Nat) (o a : Int), 0 ≤ o → o < 1024 → o < r → fSu o (zand (sAl K) (zxor had (-1))) → a ≤ sCh (fun o => fWs K o (u * (E - (j : Int))) (K 6) + sTb K u E j (zor had o)) (K 0) (zand (sAl K) (zxor had (-1))) r o a ∧ (fun o => fWs K o (u * (E - (j : Int))) (K 6) + sTb K u E j (zor had o)) 0 ≤ sCh (fun o => fWs K o (u * (E - (j : Int))) (K 6) + sTb K u E j (zor had o)) (K 0) (zand (sAl K) (zxor had (-1))) r o a := by
      intro r
      induction r with
      | zero => intro o a o0 _ o2; omega
      | succ r ih =>
        intro o a o0 o1 o2 ho
        by_cases z : o = 0
        · rw [sCh_0 z, z, if_pos (by show fPc 0 ≤ K 0; have : fPc 0 = 0 := rfl; omega)]
          exact ⟨Int.le_max_left _ _, Int.le_max_right _ _⟩
        · rw [sCh_1 z]
          have n := fNx (o := o) (f := zand (sAl K) (zxor had (-1))) (by omega) o1 f.1 f.2.1
          have i := ih (zand (o - 1) (zand (sAl K) (zxor had (-1)))) (if fPc o ≤ K 0 then max a ((fun o => fWs K o (u * (E - (j : Int))) (K 6) + sTb K u E j (zor had o)) o) else a) n.1 (by omega) (by omega) n.2.2
          refine ⟨Int.le_trans ?_ i.1, i.2⟩
          split <;> omega
    have h9 := (hv 1024 _ 0 f.1 f.2.1 f.2.1 ff).2
    have w0 : fWs K 0 (u * (E - (j : Int))) (K 6) = 0 := fWs_0 (by omega)
    simp only [w0] at h9
    refine done 0 (by omega) (by omega) (fSu_0 f.1 f.2.1) (by have : fPc 0 = 0 := rfl; omega) ?_
    show sCh _ _ _ _ _ _ = _
    rw [w0]
    omega
  · exact done s s0 s1 hsf hp q
/-- those that are served ahead of end e; when each is -/
noncomputable def sHd (K : Int → Int) (u E : Int) : Nat → Int
  | 0 => 0
  | e + 1 => zor (sHd K u E e) (sPk K u E (e : Int) (sHd K u E e))
noncomputable def sAt (K : Int → Int) (u E g : Int) : Nat → Int
  | 0 => -1
  | e + 1 => zite (zbit (sPk K u E (e : Int) (sHd K u E e)) g) (u * ((e : Int) + 1)) (sAt K u E g e)
theorem sPk_b {K : Int → Int} {u E e had : Int} (hk : zKV K) (e0 : 0 ≤ e) (e1 : e < E) (h0 : 0 ≤ had) (h1 : had ≤ sAl K) : 0 ≤ sPk K u E e had ∧ sPk K u E e had ≤ sAl K ∧ sOk K u E e had (sPk K u E e had) := by
  have hA := sAl_b hk
  obtain ⟨s, s0, s1, s2, s3⟩ := sPk_i (u := u) hk e0 e1 h0 (by omega) (fSu_al hk h0 h1)
  have hs := fSu_le s0 (by omega) hA.1 (by omega) s2
  rcases zfi_i (P := sOk K u E e had) (n := sAl K + 1) (by omega) with ⟨_, q⟩ | ⟨a, b, c⟩
  · exact absurd s3 (q s s0 (by omega))
  · exact ⟨a, by unfold sPk; omega, c⟩
theorem sHd_b {K : Int → Int} {u E : Int} (hk : zKV K) : ∀ e : Nat, (e : Int) ≤ E → 0 ≤ sHd K u E e ∧ sHd K u E e ≤ sAl K := by
  have hA := sAl_b hk
  intro e
  induction e with
  | zero => intro _; exact ⟨Int.le_refl _, hA.1⟩
  | succ e ih =>
    intro he
    have i := ih (by omega)
    have p := sPk_b (u := u) hk (e := (e : Int)) (by omega) (show (e : Int) < E by omega) i.1 i.2
    have o := fOr i.1 (by omega) p.1 (by omega) hA.1 (by omega) (fSu_al hk i.1 i.2) (fSu_al hk p.1 p.2.1)
    exact ⟨o.1, o.2.1⟩
theorem zfi_cc {P Q : Int → Prop} {k : Int} (h : ∀ j, 0 ≤ j → j < k → (P j ↔ Q j)) : zfi P k = zfi Q k := zfi_c h
/-- an end more behind minute 340 serves none -/
theorem sOk_e {K : Int → Int} {u E e had o : Int} (hk : zKV K) (hE : 340 ≤ u * (E + 1)) (e1 : e < E) (h0 : 0 ≤ had) (h1 : had ≤ sAl K) (o0 : 0 ≤ o) (o1 : o ≤ sAl K) : sOk K u (E + 1) e had o ↔ sOk K u E e had o := by
  have hA := sAl_b hk
  have oo := fOr h0 (by omega) o0 (by omega) hA.1 (by omega) (fSu_al hk h0 h1) (fSu_al hk o0 o1)
  unfold sOk
  rw [show (E + 1 - (e + 1)).toNat = (E - (e + 1)).toNat + 1 by omega, show (E + 1 - e).toNat = (E - e).toNat + 1 by omega, sTb_e hk hE _ _ oo.1 (by omega) oo.2.2, sTb_e hk hE _ _ h0 (by omega) (fSu_al hk h0 h1)]
theorem sHd_e {K : Int → Int} {u E : Int} (hk : zKV K) (hE : 340 ≤ u * (E + 1)) : ∀ e : Nat, (e : Int) ≤ E → sHd K u (E + 1) e = sHd K u E e ∧ ∀ g, sAt K u (E + 1) g e = sAt K u E g e := by
  intro e
  induction e with
  | zero => intro _; exact ⟨rfl, fun g => rfl⟩
  | succ e ih =>
    intro he
    have i := ih (by omega)
    have b := sHd_b (u := u) (E := E) hk e (by omega)
    have p : sPk K u (E + 1) (e : Int) (sHd K u E e) = sPk K u E (e : Int) (sHd K u E e) := zfi_c (fun o o0 o1 => sOk_e hk hE (by omega) b.1 b.2 o0 (by omega))
    refine ⟨?_, fun g => ?_⟩
    · show zor (sHd K u (E + 1) e) (sPk K u (E + 1) (e : Int) (sHd K u (E + 1) e)) = _
      rw [i.1, p]
      rfl
    · show zite (zbit (sPk K u (E + 1) (e : Int) (sHd K u (E + 1) e)) g) _ (sAt K u (E + 1) g e) = _
      rw [i.1, p, i.2]
      rfl
theorem sAt_e {K : Int → Int} {u E : Int} (hk : zKV K) (hE : 340 ≤ u * (E + 1)) (h0 : 0 ≤ E) (g : Int) : sAt K u (E + 1) g (E + 1).toNat = sAt K u E g E.toNat := by
  have i := sHd_e (u := u) hk hE E.toNat (by omega)
  have b := sHd_b (u := u) (E := E) hk E.toNat (by omega)
  have hA := sAl_b hk
  have h6 := hk.1
  have e : ((E.toNat : Nat) : Int) = E := by omega
  have p : sPk K u (E + 1) E (sHd K u E E.toNat) = 0 := by
    refine zfi_t (fun j a c => by omega) (by omega) (by omega) ⟨?_, ?_, ?_⟩
    · obtain ⟨d, hd⟩ := Int.eq_ofNat_of_zero_le b.1
      rw [hd, show (0 : Int) = ((0 : Nat) : Int) from rfl, zand_nat (by omega) (by omega), Nat.zero_and]
    · have : fPc 0 = 0 := rfl
      omega
    · have z := sTb_e hk hE 0 (sHd K u E E.toNat) b.1 (by omega) (fSu_al hk b.1 b.2)
      rw [show (E + 1 - (E + 1)).toNat = 0 by omega, show (E + 1 - E).toNat = 0 + 1 by omega, z, fWs_0 (by omega)]
      rfl
  rw [show (E + 1).toNat = E.toNat + 1 by omega]
  show zite (zbit (sPk K u (E + 1) ((E.toNat : Nat) : Int) (sHd K u (E + 1) E.toNat)) g) _ (sAt K u (E + 1) g E.toNat) = _
  rw [i.1, e, p, zite_f (zbit_0 _), i.2]
