/-! VALUES BY INTEGERS: an int, a long, a reference of the machine, each by an integer; what the instructions do to them -/
def zI (x : Int) : Value := .int (Int32.ofInt x)
def zJ (x : Int) : Value := .long (Int64.ofInt x)
def zR (x : Int) : Value := if x < 0 then .null else .ref x.toNat
/-- a place of the locals of which nothing is known -/
def zU : Value := .retAddr 0
/-- in the range of an int, of a long -/
abbrev zi (x : Int) : Prop := -2147483648 ≤ x ∧ x < 2147483648
abbrev zj (x : Int) : Prop := -9223372036854775808 ≤ x ∧ x < 9223372036854775808
theorem zi_to {x : Int} (h : zi x) : (Int32.ofInt x).toInt = x := Int32.toInt_ofInt_of_le h.1 h.2
theorem zj_to {x : Int} (h : zj x) : (Int64.ofInt x).toInt = x := Int64.toInt_ofInt_of_le h.1 h.2
theorem zi_of (v : Int32) : zi v.toInt := ⟨v.le_toInt, v.toInt_lt⟩
theorem zj_of (v : Int64) : zj v.toInt := ⟨v.le_toInt, v.toInt_lt⟩
theorem zI_of (v : Int32) : Value.int v = zI v.toInt := by unfold zI; rw [Int32.ofInt_toInt]
theorem zJ_of (v : Int64) : Value.long v = zJ v.toInt := by unfold zJ; rw [Int64.ofInt_toInt]
theorem zi_lt {a b : Int} (ha : zi a) (hb : zi b) : Int32.ofInt a < Int32.ofInt b ↔ a < b := by
  rw [Int32.lt_iff_toInt_lt, zi_to ha, zi_to hb]
theorem zi_le {a b : Int} (ha : zi a) (hb : zi b) : Int32.ofInt a ≤ Int32.ofInt b ↔ a ≤ b := by
  rw [Int32.le_iff_toInt_le, zi_to ha, zi_to hb]
theorem zi_eq {a b : Int} (ha : zi a) (hb : zi b) : Int32.ofInt a = Int32.ofInt b ↔ a = b := by
  rw [← Int32.toInt_inj, zi_to ha, zi_to hb]
theorem zj_lt {a b : Int} (ha : zj a) (hb : zj b) : Int64.ofInt a < Int64.ofInt b ↔ a < b := by
  rw [Int64.lt_iff_toInt_lt, zj_to ha, zj_to hb]
theorem zj_eq {a b : Int} (ha : zj a) (hb : zj b) : Int64.ofInt a = Int64.ofInt b ↔ a = b := by
  rw [← Int64.toInt_inj, zj_to ha, zj_to hb]
theorem z32_0 : (0 : Int32) = Int32.ofInt 0 := by decide +kernel
theorem zi_0 : zi 0 := by omega
theorem zj_0 : zj 0 := by omega
theorem zi_n0 {a : Int} (ha : zi a) : Int32.ofInt a = 0 ↔ a = 0 := by rw [z32_0]; exact zi_eq ha zi_0
theorem zi_lt0 {a : Int} (ha : zi a) : Int32.ofInt a < 0 ↔ a < 0 := by rw [z32_0]; exact zi_lt ha zi_0
theorem zi_le0 {a : Int} (ha : zi a) : Int32.ofInt a ≤ 0 ↔ a ≤ 0 := by rw [z32_0]; exact zi_le ha zi_0
theorem zi_gt0 {a : Int} (ha : zi a) : 0 < Int32.ofInt a ↔ 0 < a := by rw [z32_0]; exact zi_lt zi_0 ha
theorem zi_ge0 {a : Int} (ha : zi a) : 0 ≤ Int32.ofInt a ↔ 0 ≤ a := by rw [z32_0]; exact zi_le zi_0 ha
theorem zi_inj {v w : Int32} (h : v.toInt = w.toInt) : v = w := Int32.toInt_inj.mp h
theorem zj_inj {v w : Int64} (h : v.toInt = w.toInt) : v = w := Int64.toInt_inj.mp h
theorem zi_add (a b : Int) : Int32.ofInt a + Int32.ofInt b = Int32.ofInt (a + b) := by
  apply zi_inj
  simp
theorem zi_sub (a b : Int) : Int32.ofInt a - Int32.ofInt b = Int32.ofInt (a - b) := by
  apply zi_inj
  simp
theorem zi_mul (a b : Int) : Int32.ofInt a * Int32.ofInt b = Int32.ofInt (a * b) := by
  apply zi_inj
  simp
theorem zi_neg (a : Int) : -Int32.ofInt a = Int32.ofInt (-a) := by
  apply zi_inj
  simp
theorem zj_add (a b : Int) : Int64.ofInt a + Int64.ofInt b = Int64.ofInt (a + b) := by
  apply zj_inj
  simp
theorem zj_sub (a b : Int) : Int64.ofInt a - Int64.ofInt b = Int64.ofInt (a - b) := by
  apply zj_inj
  simp
theorem zj_mul (a b : Int) : Int64.ofInt a * Int64.ofInt b = Int64.ofInt (a * b) := by
  apply zj_inj
  simp
theorem zbmod32 {n : Int} (h1 : -2 ^ 31 ≤ n) (h2 : n < 2 ^ 31) : n.bmod (2 ^ 32) = n := by
  rw [Int.bmod_def]; omega
theorem zi_div {a b : Int} (h0 : 0 ≤ a) (h1 : a < 2147483648) (h2 : 0 < b) (h3 : b < 2147483648) : Int32.ofInt a / Int32.ofInt b = Int32.ofInt (a / b) := by
  apply zi_inj
  have ha : zi a := ⟨by omega, h1⟩
  have hb : zi b := ⟨by omega, h3⟩
  have h4 : a / b ≤ a := Int.ediv_le_self b h0
  have h5 : 0 ≤ a / b := Int.ediv_nonneg h0 (by omega)
  have hc : zi (a / b) := ⟨by omega, by omega⟩
  rw [Int32.toInt_div, zi_to ha, zi_to hb, zi_to hc, Int.tdiv_eq_ediv_of_nonneg h0]
  exact zbmod32 (by omega) (by omega)
theorem zi_rem {a b : Int} (h0 : 0 ≤ a) (h1 : a < 2147483648) (h2 : 0 < b) (h3 : b < 2147483648) : Int32.ofInt a - Int32.ofInt a / Int32.ofInt b * Int32.ofInt b = Int32.ofInt (a % b) := by
  rw [zi_div h0 h1 h2 h3, zi_mul, zi_sub]
  congr 1
  rw [Int.emod_def, Int.mul_comm]
theorem zbmod64 {n : Int} (h1 : -2 ^ 63 ≤ n) (h2 : n < 2 ^ 63) : n.bmod (2 ^ 64) = n := by
  rw [Int.bmod_def]; omega
theorem zj_div {a b : Int} (h0 : 0 ≤ a) (h1 : a < 9223372036854775808) (h2 : 0 < b) (h3 : b < 9223372036854775808) : Int64.ofInt a / Int64.ofInt b = Int64.ofInt (a / b) := by
  apply zj_inj
  have ha : zj a := ⟨by omega, h1⟩
  have hb : zj b := ⟨by omega, h3⟩
  have h4 : a / b ≤ a := Int.ediv_le_self b h0
  have h5 : 0 ≤ a / b := Int.ediv_nonneg h0 (by omega)
  have hc : zj (a / b) := ⟨by omega, by omega⟩
  rw [Int64.toInt_div, zj_to ha, zj_to hb, zj_to hc, Int.tdiv_eq_ediv_of_nonneg h0]
  exact zbmod64 (by omega) (by omega)
theorem zj_rem {a b : Int} (h0 : 0 ≤ a) (h1 : a < 9223372036854775808) (h2 : 0 < b) (h3 : b < 9223372036854775808) : Int64.ofInt a - Int64.ofInt a / Int64.ofInt b * Int64.ofInt b = Int64.ofInt (a % b) := by
  rw [zj_div h0 h1 h2 h3, zj_mul, zj_sub]
  congr 1
  rw [Int.emod_def, Int.mul_comm]
theorem zi_l {a : Int} (h : zi a) : (Int32.ofInt a).toInt64 = Int64.ofInt a := by
  apply zj_inj
  have hj : zj a := ⟨by have := h.1; omega, by have := h.2; omega⟩
  rw [zj_to hj, Int32.toInt_toInt64, zi_to h]
theorem zj_i (a : Int) : (Int64.ofInt a).toInt32 = Int32.ofInt a := Int64.toInt32_ofInt
theorem zi_b (a : Int) : (Int32.ofInt a).toInt8.toInt32 = Int32.ofInt (a.bmod 256) := by
  apply zi_inj
  have h1 : -128 ≤ a.bmod 256 := by rw [Int.bmod_def]; omega
  have h2 : a.bmod 256 < 128 := by rw [Int.bmod_def]; omega
  have hc : zi (a.bmod 256) := ⟨by omega, by omega⟩
  rw [zi_to hc, Int8.toInt_toInt32, Int32.toInt8_ofInt, Int8.toInt_ofInt]
/-! bits, shifts -/
def zand (a b : Int) : Int := (Int32.ofInt a &&& Int32.ofInt b).toInt
def zor (a b : Int) : Int := (Int32.ofInt a ||| Int32.ofInt b).toInt
def zxor (a b : Int) : Int := (Int32.ofInt a ^^^ Int32.ofInt b).toInt
def zjand (a b : Int) : Int := (Int64.ofInt a &&& Int64.ofInt b).toInt
def zjor (a b : Int) : Int := (Int64.ofInt a ||| Int64.ofInt b).toInt
theorem zand_v (a b : Int) : Int32.ofInt a &&& Int32.ofInt b = Int32.ofInt (zand a b) := by unfold zand; rw [Int32.ofInt_toInt]
theorem zor_v (a b : Int) : Int32.ofInt a ||| Int32.ofInt b = Int32.ofInt (zor a b) := by unfold zor; rw [Int32.ofInt_toInt]
theorem zxor_v (a b : Int) : Int32.ofInt a ^^^ Int32.ofInt b = Int32.ofInt (zxor a b) := by unfold zxor; rw [Int32.ofInt_toInt]
theorem zjand_v (a b : Int) : Int64.ofInt a &&& Int64.ofInt b = Int64.ofInt (zjand a b) := by unfold zjand; rw [Int64.ofInt_toInt]
theorem zjor_v (a b : Int) : Int64.ofInt a ||| Int64.ofInt b = Int64.ofInt (zjor a b) := by unfold zjor; rw [Int64.ofInt_toInt]
theorem zand_i (a b : Int) : zi (zand a b) := zi_of _
theorem zor_i (a b : Int) : zi (zor a b) := zi_of _
theorem zxor_i (a b : Int) : zi (zxor a b) := zi_of _
theorem zI_nat (n : Nat) : Int32.ofInt (n : Int) = Int32.ofNat n := Int32.ofInt_eq_ofNat
theorem zJ_nat (n : Nat) : Int64.ofInt (n : Int) = Int64.ofNat n := Int64.ofInt_eq_ofNat
theorem z_nat {x : Int} (h : 0 ≤ x) : ((x.toNat : Nat) : Int) = x := Int.toNat_of_nonneg h
theorem zi_ix {i : Int} {n : Nat} (h0 : 0 ≤ i) (h1 : i < n) (hn : n < 2147483648) : vp_in (Int32.ofInt i) n := by
  rw [vp_in_iff, zi_to ⟨by omega, by omega⟩]
  exact ⟨h0, h1⟩
theorem zi_cl {i : Int} (h0 : 0 ≤ i) (h1 : i < 2147483648) : (Int32.ofInt i).toNatClampNeg = i.toNat := by
  have h := zi_to (x := i) ⟨by omega, h1⟩
  rw [← Int32.toNat_toInt, h]
/-- shifts of ints by a number in 0..31 -/
theorem zk_sh : ∀ k : Fin 32, ((Int32.ofInt (k.val : Int)).toBitVec.smod 32).toNat = k.val := by decide +kernel
theorem zk_sm {k : Int} (h0 : 0 ≤ k) (h1 : k < 32) : ((Int32.ofInt k).toBitVec.smod 32).toNat = k.toNat := by
  have h := zk_sh ⟨k.toNat, by omega⟩
  rw [z_nat h0] at h
  exact h
theorem zk_s : ∀ k : Fin 32, ((Int32.ofInt (k.val : Int) &&& 31).toBitVec.smod 32).toNat = k.val := by decide +kernel
theorem zk_u : ∀ k : Fin 32, (((Int32.ofInt (k.val : Int)).toUInt32 &&& Int32.toUInt32 31).toBitVec % 32).toNat = k.val := by decide +kernel
theorem zk_j : ∀ k : Fin 64, (((Int32.ofInt (k.val : Int)).toInt64 &&& 63).toBitVec.smod 64).toNat = k.val := by decide +kernel
theorem zk_si {k : Int} (h0 : 0 ≤ k) (h1 : k < 32) : ((Int32.ofInt k &&& 31).toBitVec.smod 32).toNat = k.toNat := by
  have h := zk_s ⟨k.toNat, by omega⟩
  simp only [z_nat h0] at h
  exact h
theorem zk_ui {k : Int} (h0 : 0 ≤ k) (h1 : k < 32) : (((Int32.ofInt k).toUInt32 &&& Int32.toUInt32 31).toBitVec % 32).toNat = k.toNat := by
  have h := zk_u ⟨k.toNat, by omega⟩
  simp only [z_nat h0] at h
  exact h
theorem zk_ji {k : Int} (h0 : 0 ≤ k) (h1 : k < 64) : (((Int32.ofInt k).toInt64 &&& 63).toBitVec.smod 64).toNat = k.toNat := by
  have h := zk_j ⟨k.toNat, by omega⟩
  simp only [z_nat h0] at h
  exact h
theorem zi_tn (a : Int) : (Int32.ofInt a).toBitVec.toNat = (a % 4294967296).toNat := by
  show (BitVec.ofInt 32 a).toNat = _
  rw [BitVec.toNat_ofInt]
  rfl
theorem zj_tn (a : Int) : (Int64.ofInt a).toBitVec.toNat = (a % 18446744073709551616).toNat := by
  show (BitVec.ofInt 64 a).toNat = _
  rw [BitVec.toNat_ofInt]
  rfl
theorem z_mulmod (a : Int) (p M : Nat) (hM : 0 < M) : (a % (M : Int)).toNat * p % M = (a * (p : Int) % (M : Int)).toNat := by
  have h0 : 0 ≤ a % (M : Int) := Int.emod_nonneg _ (by omega)
  have h1 : 0 ≤ a * (p : Int) % (M : Int) := Int.emod_nonneg _ (by omega)
  have e : (((a % (M : Int)).toNat * p % M : Nat) : Int) = a * (p : Int) % (M : Int) := by
    rw [Int.natCast_emod, Int.natCast_mul, z_nat h0, Int.mul_emod, Int.emod_emod, ← Int.mul_emod]
  omega
theorem zi_shl (a : Int) {k : Int} (h0 : 0 ≤ k) (h1 : k < 32) : Int32.ofInt a <<< (Int32.ofInt k &&& 31) = Int32.ofInt (a * 2 ^ k.toNat) := by
  apply Int32.toBitVec_inj.mp
  apply BitVec.eq_of_toNat_eq
  rw [pk_shl _ _ _ (zk_si h0 h1), zi_tn, zi_tn]
  have h := z_mulmod a (2 ^ k.toNat) 4294967296 (by omega)
  rw [Int.natCast_pow] at h
  exact h
theorem zi_shr {a k : Int} (ha : zi a) (h0 : 0 ≤ k) (h1 : k < 32) : Int32.ofInt a >>> (Int32.ofInt k &&& 31) = Int32.ofInt (a / 2 ^ k.toNat) := by
  apply zi_inj
  rw [pk_shr _ _ _ (zk_si h0 h1), zi_to ha, Int.shiftRight_eq_div_pow, zi_to]
  · simp
  · have hp : (0 : Int) < 2 ^ k.toNat := Int.pow_pos (by omega)
    obtain ⟨h2, h3⟩ := ha
    constructor
    · rw [Int.le_ediv_iff_mul_le hp]
      have : (1 : Int) ≤ 2 ^ k.toNat := hp
      have h5 := Int.mul_le_mul_of_nonneg_left this (show (0:Int) ≤ 2147483648 by omega)
      omega
    · apply Int.ediv_lt_of_lt_mul hp
      have : (1 : Int) ≤ 2 ^ k.toNat := hp
      have h5 := Int.mul_le_mul_of_nonneg_left this (show (0:Int) ≤ 2147483648 by omega)
      omega
theorem zi_ushr (a : Int) {k : Int} (h0 : 0 ≤ k) (h1 : k < 32) : ((Int32.ofInt a).toUInt32 >>> ((Int32.ofInt k).toUInt32 &&& Int32.toUInt32 31)).toInt32 = Int32.ofInt (a % 4294967296 / 2 ^ k.toNat) := by
  apply Int32.toBitVec_inj.mp
  apply BitVec.eq_of_toNat_eq
  rw [pk_ushr _ _ _ (zk_ui h0 h1), zi_tn, zi_tn]
  have h2 : 0 ≤ a % 4294967296 := Int.emod_nonneg _ (by omega)
  have h3 : a % 4294967296 < 4294967296 := Int.emod_lt_of_pos _ (by omega)
  have hp : (0 : Int) < 2 ^ k.toNat := Int.pow_pos (by omega)
  have h4 : a % 4294967296 / 2 ^ k.toNat ≤ a % 4294967296 := Int.ediv_le_self _ h2
  have h5 : 0 ≤ a % 4294967296 / 2 ^ k.toNat := Int.ediv_nonneg h2 (by omega)
  rw [Int.emod_eq_of_lt h5 (by omega)]
  apply Int.ofNat.inj
  show (((a % 4294967296).toNat / 2 ^ k.toNat : Nat) : Int) = ((a % 4294967296 / 2 ^ k.toNat).toNat : Int)
  rw [z_nat h5, Int.natCast_ediv, z_nat h2, Int.natCast_pow]
  rfl
theorem zj_shl (a : Int) {k : Int} (h0 : 0 ≤ k) (h1 : k < 64) : Int64.ofInt a <<< ((Int32.ofInt k).toInt64 &&& 63) = Int64.ofInt (a * 2 ^ k.toNat) := by
  apply Int64.toBitVec_inj.mp
  apply BitVec.eq_of_toNat_eq
  show ((Int64.ofInt a).toBitVec <<< ((((Int32.ofInt k).toInt64 &&& 63).toBitVec.smod 64).toNat)).toNat = _
  rw [zk_ji h0 h1, BitVec.toNat_shiftLeft, Nat.shiftLeft_eq, zj_tn, zj_tn]
  have h := z_mulmod a (2 ^ k.toNat) 18446744073709551616 (by omega)
  rw [Int.natCast_pow] at h
  exact h
theorem zj_shr {a k : Int} (ha : zj a) (h0 : 0 ≤ k) (h1 : k < 64) : Int64.ofInt a >>> ((Int32.ofInt k).toInt64 &&& 63) = Int64.ofInt (a / 2 ^ k.toNat) := by
  apply zj_inj
  have e : (Int64.ofInt a >>> ((Int32.ofInt k).toInt64 &&& 63)).toInt = (Int64.ofInt a).toInt >>> k.toNat := by
    show ((Int64.ofInt a).toBitVec.sshiftRight (((Int32.ofInt k).toInt64 &&& 63).toBitVec.smod 64).toNat).toInt = _
    rw [zk_ji h0 h1, BitVec.toInt_sshiftRight]
    rfl
  rw [e, zj_to ha, Int.shiftRight_eq_div_pow, zj_to]
  · simp
  · have hp : (0 : Int) < 2 ^ k.toNat := Int.pow_pos (by omega)
    obtain ⟨h2, h3⟩ := ha
    constructor
    · rw [Int.le_ediv_iff_mul_le hp]
      have : (1 : Int) ≤ 2 ^ k.toNat := hp
      have h5 := Int.mul_le_mul_of_nonneg_left this (show (0:Int) ≤ 9223372036854775808 by omega)
      omega
    · apply Int.ediv_lt_of_lt_mul hp
      have : (1 : Int) ≤ 2 ^ k.toNat := hp
      have h5 := Int.mul_le_mul_of_nonneg_left this (show (0:Int) ≤ 9223372036854775808 by omega)
      omega
/-- lcmp -/
theorem zj_cmp_eq {a b : Int} (ha : zj a) (hb : zj b) : lg_cmp (Int64.ofInt a) (Int64.ofInt b) = 0 ↔ a = b := by
  unfold lg_cmp
  have h1 : (Int64.ofInt a > Int64.ofInt b) ↔ b < a := zj_lt hb ha
  have h2 := zj_eq ha hb
  by_cases h : b < a
  · rw [if_pos (h1.mpr h)]
    constructor
    · intro q; exact absurd q (by decide +kernel)
    · intro q; omega
  · rw [if_neg (fun q => h (h1.mp q))]
    by_cases e : a = b
    · rw [if_pos (h2.mpr e)]; exact ⟨fun _ => e, fun _ => rfl⟩
    · rw [if_neg (fun q => e (h2.mp q))]
      exact ⟨fun q => absurd q (by decide +kernel), fun q => absurd q e⟩
theorem zj_cmp_le {a b : Int} (ha : zj a) (hb : zj b) : lg_cmp (Int64.ofInt a) (Int64.ofInt b) ≤ 0 ↔ a ≤ b := by
  unfold lg_cmp
  have h1 : (Int64.ofInt a > Int64.ofInt b) ↔ b < a := zj_lt hb ha
  have h2 := zj_eq ha hb
  by_cases h : b < a
  · rw [if_pos (h1.mpr h)]
    exact ⟨fun q => absurd q (by decide +kernel), fun q => absurd h (by omega)⟩
  · rw [if_neg (fun q => h (h1.mp q))]
    by_cases e : a = b
    · rw [if_pos (h2.mpr e)]; exact ⟨fun _ => by omega, fun _ => by decide +kernel⟩
    · rw [if_neg (fun q => e (h2.mp q))]
      exact ⟨fun _ => by omega, fun _ => by decide +kernel⟩
