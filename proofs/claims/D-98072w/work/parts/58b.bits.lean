/-! BITS of numbers below 2^31 -/
theorem zor_nat {a b : Nat} (ha : a < 2147483648) (hb : b < 2147483648) : zor (a : Int) (b : Int) = ((a ||| b : Nat) : Int) := by
  have hlt : a ||| b < 2 ^ 31 := Nat.or_lt_two_pow ha hb
  unfold zor
  show (Int32.ofInt a ||| Int32.ofInt b).toBitVec.toInt = _
  have e : (Int32.ofInt a ||| Int32.ofInt b).toBitVec.toNat = a ||| b := by
    rw [Int32.toBitVec_or, BitVec.toNat_or, zi_tn, zi_tn, show ((a : Int) % 4294967296).toNat = a by omega, show ((b : Int) % 4294967296).toNat = b by omega]
  rw [BitVec.toInt_eq_toNat_cond, e, if_pos (by omega)]
theorem zand_nat {a b : Nat} (ha : a < 2147483648) (hb : b < 2147483648) : zand (a : Int) (b : Int) = ((a &&& b : Nat) : Int) := by
  have hlt : a &&& b ≤ a := Nat.and_le_left
  unfold zand
  show (Int32.ofInt a &&& Int32.ofInt b).toBitVec.toInt = _
  have e : (Int32.ofInt a &&& Int32.ofInt b).toBitVec.toNat = a &&& b := by
    rw [Int32.toBitVec_and, BitVec.toNat_and, zi_tn, zi_tn, show ((a : Int) % 4294967296).toNat = a by omega, show ((b : Int) % 4294967296).toNat = b by omega]
  rw [BitVec.toInt_eq_toNat_cond, e, if_pos (by omega)]
/-- a & ~b -/
theorem zandn_nat {a b : Nat} (ha : a < 2147483648) (hb : b < 2147483648) : zand (a : Int) (zxor (b : Int) (-1)) = ((a ^^^ (a &&& b) : Nat) : Int) := by
  have hlt : a ^^^ (a &&& b) < 2 ^ 31 := Nat.xor_lt_two_pow ha (Nat.lt_of_le_of_lt Nat.and_le_left ha)
  unfold zand zxor
  rw [Int32.ofInt_toInt]
  show (Int32.ofInt a &&& (Int32.ofInt b ^^^ Int32.ofInt (-1))).toBitVec.toInt = _
  have e : (Int32.ofInt a &&& (Int32.ofInt b ^^^ Int32.ofInt (-1))).toBitVec.toNat = a ^^^ (a &&& b) := by
    rw [Int32.toBitVec_and, Int32.toBitVec_xor, BitVec.toNat_and, BitVec.toNat_xor, zi_tn, zi_tn, show ((a : Int) % 4294967296).toNat = a by omega, show ((b : Int) % 4294967296).toNat = b by omega,
      show (Int32.ofInt (-1)).toBitVec.toNat = 2 ^ 32 - 1 by decide +kernel]
    refine Nat.eq_of_testBit_eq (fun i => ?_)
    rw [Nat.testBit_and, Nat.testBit_xor, Nat.testBit_xor, Nat.testBit_and, Nat.testBit_two_pow_sub_one]
    by_cases q : i < 32
    · simp only [q, decide_true]
      cases a.testBit i <;> cases b.testBit i <;> rfl
    · rw [Nat.testBit_lt_two_pow (x := a) (i := i) (Nat.lt_of_lt_of_le ha (Nat.le_trans (show 2147483648 ≤ 2 ^ 32 by decide) (Nat.pow_le_pow_right (by omega) (by omega))))]
      simp
  rw [BitVec.toInt_eq_toNat_cond, e, if_pos (by omega)]
theorem zbit_nat {a k : Nat} : zbit (a : Int) (k : Int) ↔ a.testBit k = true := by
  unfold zbit
  rw [show ((k : Int)).toNat = k by omega, Nat.testBit_eq_decide_div_mod_eq, decide_eq_true_iff]
  have e : (a : Int) / 2 ^ k % 2 = ((a / 2 ^ k % 2 : Nat) : Int) := by
    rw [Int.natCast_emod, Int.natCast_ediv, Int.natCast_pow]
    rfl
  rw [e]
  omega
theorem zpw_nat (k : Nat) : (1 : Int) * 2 ^ ((k : Int)).toNat = ((2 ^ k : Nat) : Int) := by
  rw [Int.one_mul, show ((k : Int)).toNat = k by omega, Int.natCast_pow]
  rfl
/-- one bit more -/
theorem zbit_or {a i j : Int} (h0 : 0 ≤ a) (h1 : a < 2147483648) (j0 : 0 ≤ j) (j1 : j < 31) (i0 : 0 ≤ i) : zbit (zor a (1 * 2 ^ j.toNat)) i ↔ zbit a i ∨ i = j := by
  obtain ⟨a, rfl⟩ := Int.eq_ofNat_of_zero_le h0
  obtain ⟨i, rfl⟩ := Int.eq_ofNat_of_zero_le i0
  obtain ⟨j, rfl⟩ := Int.eq_ofNat_of_zero_le j0
  have hp : 2 ^ j < 2147483648 := Nat.pow_lt_pow_right (a := 2) (n := 31) (by omega) (by omega)
  rw [zpw_nat, zor_nat (by omega) hp, zbit_nat, zbit_nat, Nat.testBit_or, Nat.testBit_two_pow]
  simp only [Bool.or_eq_true, decide_eq_true_eq]
  constructor
  · rintro (q | q)
    · exact Or.inl q
    · exact Or.inr (by omega)
  · rintro (q | q)
    · exact Or.inl q
    · exact Or.inr (by omega)
theorem zor_r {a j n : Int} (h0 : 0 ≤ a) (h1 : a < 2 ^ n.toNat) (j0 : 0 ≤ j) (j1 : j < n) (n1 : n ≤ 31) : 0 ≤ zor a (1 * 2 ^ j.toNat) ∧ zor a (1 * 2 ^ j.toNat) < 2 ^ n.toNat := by
  obtain ⟨a, rfl⟩ := Int.eq_ofNat_of_zero_le h0
  obtain ⟨j, rfl⟩ := Int.eq_ofNat_of_zero_le j0
  obtain ⟨n, rfl⟩ := Int.eq_ofNat_of_zero_le (show 0 ≤ n by omega)
  have e : (2 : Int) ^ ((n : Int)).toNat = ((2 ^ n : Nat) : Int) := by
    rw [show ((n : Int)).toNat = n by omega, Int.natCast_pow]
    rfl
  rw [e] at h1 ⊢
  have hp : 2 ^ j < 2 ^ n := Nat.pow_lt_pow_right (by omega) (by omega)
  have hn : 2 ^ n ≤ 2 ^ 31 := Nat.pow_le_pow_right (by omega) (by omega)
  have ha : a < 2 ^ n := by omega
  rw [zpw_nat, zor_nat (by omega) (by omega)]
  have := Nat.or_lt_two_pow ha hp
  omega
/-- all bits below n -/
theorem zbit_all {a n : Int} (h0 : 0 ≤ a) (n0 : 0 ≤ n) (h1 : a < 2 ^ n.toNat) : a = 1 * 2 ^ n.toNat - 1 ↔ ∀ j, 0 ≤ j → j < n → zbit a j := by
  obtain ⟨a, rfl⟩ := Int.eq_ofNat_of_zero_le h0
  obtain ⟨n, rfl⟩ := Int.eq_ofNat_of_zero_le n0
  have e : (2 : Int) ^ ((n : Int)).toNat = ((2 ^ n : Nat) : Int) := by
    rw [show ((n : Int)).toNat = n by omega, Int.natCast_pow]
    rfl
  rw [zpw_nat]
  rw [e] at h1
  have hp : 0 < 2 ^ n := Nat.pow_pos (by omega)
  constructor
  · intro q j j0 j1
    obtain ⟨j, rfl⟩ := Int.eq_ofNat_of_zero_le j0
    rw [show (a : Int) = ((2 ^ n - 1 : Nat) : Int) by omega, zbit_nat, Nat.testBit_two_pow_sub_one]
    exact decide_eq_true (by omega)
  · intro q
    have e2 : a = 2 ^ n - 1 := by
      refine Nat.eq_of_testBit_eq (fun i => ?_)
      rw [Nat.testBit_two_pow_sub_one]
      by_cases hi : i < n
      · rw [decide_eq_true hi]
        exact zbit_nat.mp (q (i : Int) (by omega) (by omega))
      · rw [decide_eq_false hi]
        exact Nat.testBit_lt_two_pow (Nat.lt_of_lt_of_le (show a < 2 ^ n by omega) (Nat.pow_le_pow_right (by omega) (by omega)))
    omega
