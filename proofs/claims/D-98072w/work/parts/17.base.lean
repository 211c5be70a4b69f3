/-! SMALL THINGS; SHAPES -/
theorem zdk {v : Option Value} {S : zS} {m : zMm} {P : Option Value → zS → zMm → Prop} (h : P v S m) : ∀ (v' : Option Value) (S' : zS) (m' : zMm), zDet v S m v' S' m' → P v' S' m' := by
  rintro _ _ _ ⟨rfl, rfl, rfl⟩
  exact h
/-- sums, greatest ones, over 0 .. k-1 -/
def zs (f : Int → Int) (k : Int) : Int := ((List.range k.toNat).map (fun j => f (j : Nat))).sum
theorem zs_0 (f : Int → Int) : zs f 0 = 0 := rfl
theorem zs_s {f : Int → Int} {k : Int} (h : 0 ≤ k) : zs f (k + 1) = zs f k + f k := by
  unfold zs
  rw [show (k + 1).toNat = k.toNat + 1 by omega, List.range_succ, List.map_append, List.sum_append]
  simp [z_nat h]
def zmx (f : Int → Int) (k : Int) : Int := (List.range k.toNat).foldl (fun a j => max a (f (j : Nat))) 0
theorem zmx_0 (f : Int → Int) : zmx f 0 = 0 := rfl
theorem zmx_s {f : Int → Int} {k : Int} (h : 0 ≤ k) : zmx f (k + 1) = max (zmx f k) (f k) := by
  unfold zmx
  rw [show (k + 1).toNat = k.toNat + 1 by omega, List.range_succ, List.foldl_append]
  simp [z_nat h]
theorem zmx_b {f : Int → Int} {k B : Int} (hB : 0 ≤ B) (h : ∀ j, 0 ≤ j → j < k → f j ≤ B) : 0 ≤ zmx f k ∧ zmx f k ≤ B := by
  rcases Int.lt_or_le k 0 with hk | hk
  · unfold zmx
    rw [show k.toNat = 0 by omega]
    exact ⟨Int.le_refl 0, hB⟩
  · obtain ⟨n, rfl⟩ := Int.eq_ofNat_of_zero_le hk
    induction n with
    | zero => exact ⟨Int.le_refl 0, hB⟩
    | succ n ih =>
      have e : ((n + 1 : Nat) : Int) = (n : Int) + 1 := by omega
      rw [e, zmx_s (by omega)]
      have h1 := ih (fun j a b => h j a (by omega)) (by omega)
      have h2 := h n (by omega) (by omega)
      omega
theorem zs_b {f : Int → Int} {k B : Int} (hk : 0 ≤ k) (h : ∀ j, 0 ≤ j → j < k → 0 ≤ f j ∧ f j ≤ B) : 0 ≤ zs f k ∧ zs f k ≤ k * B := by
  obtain ⟨n, rfl⟩ := Int.eq_ofNat_of_zero_le hk
  induction n with
  | zero => rw [show ((0 : Nat) : Int) = 0 from rfl, zs_0]; omega
  | succ n ih =>
    have e : ((n + 1 : Nat) : Int) = (n : Int) + 1 := by omega
    rw [e, zs_s (by omega), Int.add_mul]
    have h1 := ih (by omega) (fun j a b => h j a (by omega))
    have h2 := h n (by omega) (by omega)
    omega
theorem zs_c {f g : Int → Int} {k : Int} (h : ∀ j, 0 ≤ j → j < k → f j = g j) : zs f k = zs g k := by
  unfold zs
  congr 1
  apply List.map_congr_left
  intro j hj
  have := List.mem_range.mp hj
  exact h j (by omega) (by omega)
theorem zmx_c {f g : Int → Int} {k : Int} (h : ∀ j, 0 ≤ j → j < k → f j = g j) : zmx f k = zmx g k := by
  rcases Int.lt_or_le k 0 with hk | hk
  · unfold zmx
    rw [show k.toNat = 0 by omega]
    rfl
  · obtain ⟨n, rfl⟩ := Int.eq_ofNat_of_zero_le hk
    induction n with
    | zero => rfl
    | succ n ih =>
      have e : ((n + 1 : Nat) : Int) = (n : Int) + 1 := by omega
      rw [e, zmx_s (by omega), zmx_s (by omega), ih (fun j a b => h j a (by omega)) (by omega), h n (by omega) (by omega)]
noncomputable abbrev zq (P : Prop) : Int := @zb P (Classical.propDecidable P)
theorem zq_t {P : Prop} (h : P) : zq P = 1 := @zb_t P (Classical.propDecidable P) h
theorem zq_f {P : Prop} (h : ¬ P) : zq P = 0 := @zb_f P (Classical.propDecidable P) h
theorem zq_01 (P : Prop) : zq P = 0 ∨ zq P = 1 := @zb_01 P (Classical.propDecidable P)
theorem zq_i (P : Prop) : zi (zq P) := @zb_i P (Classical.propDecidable P)
theorem zq_c {P R : Prop} (h : P ↔ R) : zq P = zq R := by rw [propext h]
theorem zal_s {k : Int} {p : Int → Prop} (h : ∀ j, 0 ≤ j → j < k → p j) (hk : p k) : ∀ j, 0 ≤ j → j < k + 1 → p j := fun j h1 h2 => by
  by_cases e : j = k
  · rw [e]; exact hk
  · exact h j h1 (by omega)
theorem zal_0 {p : Int → Prop} : ∀ j, 0 ≤ j → j < 0 → p j := fun j h1 h2 => by omega
section
variable {G : zG} {M : zM} {d pc : Nat} {V st : List Value} {S : zS} {mm : zMm} {k n : Nat} {Q : zQt} {X : zXt}
theorem zT.mmax {x y : Int} {idx : Nat} (hd : decode M.2.1 pc = .ok (.invokestatic idx, 3)) (hl : Cond.methodLink M.1.cls idx Lib.Math.max.name ∈ lw_all) (hx : zi x) (hy : zi y) (hdd : 1 ≤ d) (hcat : (st.map fun v => v.category).sum ≤ 8) (kk : zT G M d (pc + 3) V (zI (max x y) :: st) S mm k n Q X) : zT G M d pc V (zI y :: zI x :: st) S mm k n Q X := by
  intro p e s m args below meth c H locs cells slots K N ls F hR hW hlo hc hs hV
  have hts := F.2.2.2.2.2.2.2.1
  have h := kk p e s m args below meth c H locs cells slots K N ls F hR hW hlo hc hs hV
  have e1 : Int32.ofInt (max x y) = if Int32.ofInt x < Int32.ofInt y then Int32.ofInt y else Int32.ofInt x := by
    by_cases q : x < y
    · rw [if_pos ((zi_lt hx hy).mpr q), show max x y = y by omega]
    · rw [if_neg (fun z => q ((zi_lt hx hy).mp z)), show max x y = x by omega]
  unfold zI at h
  rw [e1] at h
  exact va_mmax F.1 F.2.1 (F.2.2.1.trans hV.1.symm) F.2.2.2.2.2.1 (hts _ hl) (hts _ q908) (hts _ q129) (hts _ q909) (show 1 ≤ d from hdd) (by show (st.map fun v => v.category).sum + 13 ≤ 64 * d; omega) (show cells ≤ K by omega) (show slots ≤ N by omega) hd h
theorem zT.mmin {x y : Int} {idx : Nat} (hd : decode M.2.1 pc = .ok (.invokestatic idx, 3)) (hl : Cond.methodLink M.1.cls idx Lib.Math.min.name ∈ lw_all) (hx : zi x) (hy : zi y) (hdd : 1 ≤ d) (hcat : (st.map fun v => v.category).sum ≤ 8) (kk : zT G M d (pc + 3) V (zI (min x y) :: st) S mm k n Q X) : zT G M d pc V (zI y :: zI x :: st) S mm k n Q X := by
  intro p e s m args below meth c H locs cells slots K N ls F hR hW hlo hc hs hV
  have hts := F.2.2.2.2.2.2.2.1
  have h := kk p e s m args below meth c H locs cells slots K N ls F hR hW hlo hc hs hV
  have e1 : Int32.ofInt (min x y) = if Int32.ofInt y < Int32.ofInt x then Int32.ofInt y else Int32.ofInt x := by
    by_cases q : y < x
    · rw [if_pos ((zi_lt hy hx).mpr q), show min x y = y by omega]
    · rw [if_neg (fun z => q ((zi_lt hy hx).mp z)), show min x y = x by omega]
  unfold zI at h
  rw [e1] at h
  exact va_mmin F.1 F.2.1 (F.2.2.1.trans hV.1.symm) F.2.2.2.2.2.1 (hts _ hl) (hts _ q1022) (hts _ q129) (hts _ q1023) (show 1 ≤ d from hdd) (by show (st.map fun v => v.category).sum + 13 ≤ 64 * d; omega) (show cells ≤ K by omega) (show slots ≤ N by omega) hd h
end
/-! bits -/
def zbit (x k : Int) : Prop := x / 2 ^ k.toNat % 2 = 1
theorem zand_mask {a M : Int} (k : Nat) (hk : k < 32) (hM : (Int32.ofInt M).toBitVec.toNat = 2 ^ k - 1) (h31 : k < 31) : zand a M = a % 2 ^ k := by
  unfold zand
  rw [pk_and _ k hM, zi_tn]
  have h0 : 0 ≤ a % 4294967296 := Int.emod_nonneg _ (by omega)
  have hp : (0 : Int) < 2 ^ k := Int.pow_pos (by omega)
  have h1 : 0 ≤ a % 2 ^ k := Int.emod_nonneg _ (by omega)
  have h2 : a % 2 ^ k < 2 ^ k := Int.emod_lt_of_pos _ hp
  have h3 : (2 : Int) ^ k ≤ 2 ^ 30 := by
    have : (2 : Nat) ^ k ≤ 2 ^ 30 := Nat.pow_le_pow_right (by omega) (by omega)
    have h := Int.ofNat_le.mpr this
    rw [Int.natCast_pow, Int.natCast_pow] at h
    exact h
  have e : (((a % 4294967296).toNat % 2 ^ k : Nat) : Int) = a % 2 ^ k := by
    rw [Int.natCast_emod, z_nat h0, Int.natCast_pow]
    show a % 4294967296 % 2 ^ k = a % 2 ^ k
    have hd : (2 : Int) ^ k ∣ 4294967296 := by
      have : (4294967296 : Int) = 2 ^ k * 2 ^ (32 - k) := by
        rw [← Int.pow_add, show k + (32 - k) = 32 by omega]
        rfl
      exact ⟨_, this⟩
    exact Int.emod_emod_of_dvd _ hd
  have hn : (a % 4294967296).toNat % 2 ^ k < 2 ^ 31 := by
    have : ((2 : Int) ^ 30) = 1073741824 := by decide
    omega
  rw [nI_toInt hn, e]
theorem zand_1 (a : Int) : zand a 1 = a % 2 := zand_mask 1 (by omega) (by decide +kernel) (by omega)
section
variable {G : zG} {M : zM} {d pc : Nat} {V st : List Value} {S : zS} {mm : zMm} {k n : Nat} {Q : zQt} {X : zXt}
/-- every word of an int array is an int -/
theorem zT.rng {a : Int} (hk : zk S a = 101) (kk : (∀ i, zi (mm a i)) → zT G M d pc V st S mm k n Q X) : zT G M d pc V st S mm k n Q X := by
  intro p e s m args below meth c H locs cells slots K N ls F hR hW hlo hc hs hV
  exact kk (fun i => by have h := hR.2.2.2.2 a i (by omega); rw [hk] at h; exact h) p e s m args below meth c H locs cells slots K N ls F hR hW hlo hc hs hV
theorem zT.rngJ {a : Int} (hk : zk S a = 102) (kk : (∀ i, zj (mm a i)) → zT G M d pc V st S mm k n Q X) : zT G M d pc V st S mm k n Q X := by
  intro p e s m args below meth c H locs cells slots K N ls F hR hW hlo hc hs hV
  exact kk (fun i => by have h := hR.2.2.2.2 a i (by omega); rw [hk] at h; exact h) p e s m args below meth c H locs cells slots K N ls F hR hW hlo hc hs hV
theorem zT.rngB {a : Int} (hk : zk S a = 103) (kk : (∀ i, -128 ≤ mm a i ∧ mm a i < 128) → zT G M d pc V st S mm k n Q X) : zT G M d pc V st S mm k n Q X := by
  intro p e s m args below meth c H locs cells slots K N ls F hR hW hlo hc hs hV
  exact kk (fun i => by have h := hR.2.2.2.2 a i (by omega); rw [hk] at h; exact h) p e s m args below meth c H locs cells slots K N ls F hR hW hlo hc hs hV
theorem zT.rngF {a i : Int} {ci j : Nat} (ht : zty i = 0) (hk : zk S a = ci + 1) (hj : j < zN ci) (kk : zi (mm a i) → zT G M d pc V st S mm k n Q X) : zT G M d pc V st S mm k n Q X := by
  intro p e s m args below meth c H locs cells slots K N ls F hR hW hlo hc hs hV
  exact kk (zwfI' hj ht (by have h := hR.2.2.2.2 a i (by omega); rw [hk] at h; exact h)) p e s m args below meth c H locs cells slots K N ls F hR hW hlo hc hs hV
end
