/-! COMMON DIVISORS -/
def zg (a b : Int) : Int := (Nat.gcd a.toNat b.toNat : Nat)
theorem zg_0 {a : Int} (h : 0 ≤ a) : zg a 0 = a := by
  unfold zg
  rw [show (0 : Int).toNat = 0 from rfl, Nat.gcd_zero_right]
  omega
theorem zg_s {a b : Int} (h : 0 ≤ a) (hb : 0 < b) : zg a b = zg b (a % b) := by
  unfold zg
  have e : (a % b).toNat = a.toNat % b.toNat := Int.toNat_emod h (by omega)
  rw [e, Nat.gcd_comm, Nat.gcd_rec, Nat.gcd_comm]
theorem zg_p {a b : Int} (h : 0 ≤ a) (hb : 0 < b) : 0 < zg a b ∧ zg a b ≤ b := by
  unfold zg
  have h1 : 0 < Nat.gcd a.toNat b.toNat := Nat.gcd_pos_of_pos_right _ (by omega)
  have h2 : Nat.gcd a.toNat b.toNat ≤ b.toNat := Nat.le_of_dvd (by omega) (Nat.gcd_dvd_right _ _)
  omega
