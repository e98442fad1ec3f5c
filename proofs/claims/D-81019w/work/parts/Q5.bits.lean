set_option maxRecDepth 100000
theorem or32n (y : Nat) (h : y / 32 % 2 = 0) : y ||| 32 = y + 32 := by
  have e : y = 2 ^ 6 * (y / 64) + y % 32 := by omega
  have b : y % 32 < 2 ^ 5 := by omega
  have e1 : 2 ^ 6 * (y / 64) + y % 32 = 2 ^ 6 * (y / 64) ||| y % 32 := Nat.two_pow_add_eq_or_of_lt (i := 6) (b := y % 32) (by omega) (y / 64)
  have e2 : 2 ^ 5 * 1 + y % 32 = 2 ^ 5 * 1 ||| y % 32 := Nat.two_pow_add_eq_or_of_lt (i := 5) (b := y % 32) (by omega) 1
  have e3 : 2 ^ 6 * (y / 64) + (2 ^ 5 * 1 + y % 32) = 2 ^ 6 * (y / 64) ||| (2 ^ 5 * 1 + y % 32) := Nat.two_pow_add_eq_or_of_lt (i := 6) (b := 2 ^ 5 * 1 + y % 32) (by omega) (y / 64)
  calc y ||| 32 = (2 ^ 6 * (y / 64) ||| y % 32) ||| 32 := by rw [← e1, ← e]
    _ = 2 ^ 6 * (y / 64) ||| (2 ^ 5 * 1 ||| y % 32) := by rw [Nat.or_assoc, Nat.or_comm (y % 32) 32]
    _ = 2 ^ 6 * (y / 64) + (2 ^ 5 * 1 + y % 32) := by rw [← e2, ← e3]
    _ = y + 32 := by omega
theorem and33n (x : Nat) (h : x < 4294967296) : x &&& 4294967263 = x / 64 * 64 + x % 32 := by
  have h1 : (x &&& 4294967263) / 2 ^ 6 = x / 2 ^ 6 &&& 4294967263 / 2 ^ 6 := Nat.and_div_two_pow ..
  have h2 : (x &&& 4294967263) % 2 ^ 6 = x % 2 ^ 6 &&& 4294967263 % 2 ^ 6 := Nat.and_mod_two_pow ..
  rw [show 4294967263 / 2 ^ 6 = 2 ^ 26 - 1 from rfl, Nat.and_two_pow_sub_one_eq_mod] at h1
  rw [show 4294967263 % 2 ^ 6 = 2 ^ 5 - 1 from rfl, Nat.and_two_pow_sub_one_eq_mod] at h2
  omega
theorem u32_p {x : Int} (x0 : 0 ≤ x ∧ x < 2147483648) : u32 x = x.toNat := by unfold u32; omega
/-- the mark of a part that more follow, or not -/
theorem mk_more {x y : Int} (x0 : 0 ≤ x ∧ x ≤ 65535 ∧ x / 32 % 2 = 0) (y0 : y = x ∨ y = x + 32) : ior (ian y (-33)) 32 = x + 32 ∧ ior (ian y (-33)) 0 = x := by
  have e1 : ian y (-33) = x := by
    rw [ian_n, show u32 (-33) = 4294967263 from rfl, u32_p (x := y) (by omega), and33n _ (by omega)]
    unfold s32
    have : y.toNat / 64 * 64 + y.toNat % 32 = x.toNat := by omega
    rw [this]
    split <;> omega
  rw [e1]
  constructor
  · rw [ior_n, u32_p (x := x) (by omega), show u32 32 = 32 from rfl, or32n _ (by omega)]
    unfold s32
    split <;> omega
  · rw [ior_n, u32_p (x := x) (by omega), show u32 0 = 0 from rfl, Nat.or_zero]
    unfold s32
    split <;> omega
