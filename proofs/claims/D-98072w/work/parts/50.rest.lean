/-! RESTORE: the class's cells against the block -/
def uRs (A : zMm) (k t : Int) : zMm := zfl (zfl A 2 0 t (fun j => A 4 (2301 * k + j))) 6 0 21 (fun j => A 8 (21 * k + j))
theorem uRs_2 {A : zMm} {k t j : Int} : uRs A k t 2 j = if 0 ≤ j ∧ j < t then A 4 (2301 * k + j) else A 2 j := by
  unfold uRs
  rw [zfl_ne (by omega)]
  unfold zfl
  by_cases e : 0 ≤ j ∧ j < t
  · rw [if_pos ⟨rfl, e⟩, if_pos e]
  · rw [if_neg (fun q => e q.2), if_neg e]
theorem uRs_6 {A : zMm} {k t j : Int} (h0 : 0 ≤ j) (h1 : j < 21) : uRs A k t 6 j = A 8 (21 * k + j) := by
  unfold uRs
  exact zfl_at h0 h1
theorem uRs_o {A : zMm} {k t o j : Int} (h : o ≠ 2 ∧ o ≠ 6) : uRs A k t o j = A o j := by
  unfold uRs
  rw [zfl_ne (by omega), zfl_ne (by omega)]
theorem uRs_6' {A : zMm} {k t u : Int} : uRs A k t 6 = uRs A k u 6 := funext fun j => by
  unfold uRs
  by_cases e : 0 ≤ j ∧ j < 21
  · rw [zfl_at e.1 e.2, zfl_at e.1 e.2]
  · rw [zfl_ne (fun q => e q.2), zfl_ne (fun q => e q.2), zfl_ne (by omega), zfl_ne (by omega)]
theorem uRes_e {A : zMm} {k : Int} : uRes A k = zup (uRs A k 2301) 0 1022 0 := rfl
theorem rel.rest {S : zS} {m : zMm} {x k : Int} {A : zMm} (h : rel S m x A) (hb : A 0 1023 = 1) (hk : 0 ≤ k ∧ k < 2) (h9 : A 9 k = 1) :
    rel S (zup (zup (zbe (zup m x 7 (m (x + 51) k)) (x + 14) (m (x + 52) k)) x 38 (m (x + 53) k)) x 17 0) x (uRes A k) := by
  rcases h.im.1 k hk.1 hk.2 with z | ⟨_, z2, z3, z4, z5⟩
  · omega
  rcases h.vim k hk.1 hk.2 with v | ⟨_, v2, v3, v4⟩
  · omega
  have hK5 := v2.1
  dsimp only at hK5
  have ka : ∀ j, 0 ≤ j → j < 58 → aK (uRs A k 58 0 1023) (uRs A k 58 2) j = A 4 (2301 * k + j) := fun j j0 j1 => by
    unfold aK
    rw [uRs_o (by omega), if_neg (by omega), uRs_2, if_pos ⟨j0, j1⟩]
  have s1 : rel S (zup m x 7 (m (x + 51) k)) x (uRs A k 58) := by
    refine h.set_ki zGr.rf (fun i j _ _ _ hn => zup_ne (by omega)) (zFar.rf.up (by omega)) (fun o j hn => ?_) ⟨Or.inl (by rw [uRs_o (by omega)]; exact hb), v2.kc (fun j j0 j1 => ka j j0 j1), fun j j0 j1 => ?_⟩ ?_
    · by_cases e : o = 2
      · rw [e, uRs_2, if_neg (by omega)]
      · exact uRs_o (by omega)
    · rw [ka 5 (by omega) (by omega)] at j1
      rw [uRs_6 j0 (by omega)]
      exact v3 j j0 j1
    · unfold rKi
      rw [zup_at]
      have q := z4.fr (m2 := zup m x 7 (m (x + 51) k)) zGr.rf (fun a a0 a1 j => zup_ne (by have := z4.1; omega))
      refine ⟨q.1, q.2.1.kc (fun j j0 j1 => ka j j0 j1), fun j j0 j1 => ?_⟩
      rw [ka 5 (by omega) (by omega)] at j1
      rw [uRs_6 j0 (by omega)]
      exact q.2.2 j j0 j1
  have v4n := v4.2.1
  have s2 : rel S (zbe (zup m x 7 (m (x + 51) k)) (x + 14) (m (x + 52) k)) x (uRs A k 2059) := by
    refine s1.be (A2 := uRs A k 2059) (by rw [uRs_o (by omega)]; exact hb) (z3.fr zGr.rf (fun a a0 a1 j => zup_ne (by omega))) (by omega) (fun o j hne => ?_) v4 ?_ (fun i w i0 i1 w0 w1 => ?_)
    · by_cases e : o = 2
      · rw [e, uRs_2, uRs_2]
        by_cases f : 0 ≤ j ∧ j < 58
        · rw [if_pos (by omega), if_pos f]
        · rw [if_neg (by omega), if_neg f]
      · by_cases f : o = 6
        · rw [f, uRs_6' (u := 58)]
        · rw [uRs_o (by omega), uRs_o (by omega)]
    · rw [uRs_2, if_pos (by omega)]
    · unfold aGo
      rw [uRs_2, if_pos (by omega)]
      congr 1
      omega
  have s3 : rel S (zup (zbe (zup m x 7 (m (x + 51) k)) (x + 14) (m (x + 52) k)) x 38 (m (x + 53) k)) x (uRs A k 2301) := by
    refine s2.set_se zGr.rf (fun i j _ _ _ hn => zup_ne (by omega)) (zFar.rf.up (by omega)) (fun o j hn => ?_) (Or.inl (by rw [uRs_o (by omega)]; exact hb)) ?_
    · by_cases e : o = 2
      · rw [e, uRs_2, uRs_2]
        by_cases f : 0 ≤ j ∧ j < 2059
        · rw [if_pos (by omega), if_pos f]
        · rw [if_neg (by omega), if_neg f]
      · by_cases f : o = 6
        · rw [f, uRs_6' (u := 2059)]
        · rw [uRs_o (by omega), uRs_o (by omega)]
    · unfold rSe
      rw [zup_at]
      have hw := h.wd
      refine (z5.fr zGr.rf (fun a a0 a1 j => ?_)).rc (fun j j0 j1 => ?_)
      · have := hw.2 a a0 a1
        have ap : a < m (x + 52) k ∨ m (x + 52) k + 6 ≤ a ∨ True := Or.inr (Or.inr trivial)
        rw [zup_ne (by omega), zbe_ne (by omega), zup_ne (by omega)]
      · rw [uRs_2, if_pos (by omega)]
        congr 1
        omega
  have s4 := s3.less (u := 0) (by omega) s3.vun.1.1
  rw [uRes_e]
  exact s4
