set_option maxRecDepth 100000
def u32 (x : Int) : Nat := (x % 4294967296).toNat
def s32 (n : Nat) : Int := if n < 2147483648 then (n : Int) else (n : Int) - 4294967296
def u64 (x : Int) : Nat := (x % 18446744073709551616).toNat
def s64 (n : Nat) : Int := if n < 9223372036854775808 then (n : Int) else (n : Int) - 18446744073709551616
theorem bv32 (b : BitVec 32) : b.toInt = s32 b.toNat := by
  rw [BitVec.toInt_eq_toNat_cond]
  unfold s32
  have := b.isLt
  split <;> split <;> omega
theorem bv64 (b : BitVec 64) : b.toInt = s64 b.toNat := by
  rw [BitVec.toInt_eq_toNat_cond]
  unfold s64
  have := b.isLt
  split <;> split <;> omega
theorem u32_of (x : Int) : (BitVec.ofInt 32 x).toNat = u32 x := by rw [BitVec.toNat_ofInt]; rfl
theorem u64_of (x : Int) : (BitVec.ofInt 64 x).toNat = u64 x := by rw [BitVec.toNat_ofInt]; rfl
theorem wr_n (x : Int) : wr x = s32 (u32 x) := by
  show (BitVec.ofInt 32 x).toInt = _
  rw [bv32, u32_of]
theorem wl_n (x : Int) : wl x = s64 (u64 x) := by
  show (BitVec.ofInt 64 x).toInt = _
  rw [bv64, u64_of]
theorem wr_eq (x : Int) : wr x = (x + 2147483648) % 4294967296 - 2147483648 := by
  rw [wr_n]; unfold s32 u32; split <;> omega
theorem wl_eq (x : Int) : wl x = (x + 9223372036854775808) % 18446744073709551616 - 9223372036854775808 := by
  rw [wl_n]; unfold s64 u64; split <;> omega
theorem ian_n (x y : Int) : ian x y = s32 (u32 x &&& u32 y) := by
  show (BitVec.ofInt 32 x &&& BitVec.ofInt 32 y).toInt = _
  rw [bv32, BitVec.toNat_and, u32_of, u32_of]
theorem ior_n (x y : Int) : ior x y = s32 (u32 x ||| u32 y) := by
  show (BitVec.ofInt 32 x ||| BitVec.ofInt 32 y).toInt = _
  rw [bv32, BitVec.toNat_or, u32_of, u32_of]
theorem lan_n (x y : Int) : lan x y = s64 (u64 x &&& u64 y) := by
  show (BitVec.ofInt 64 x &&& BitVec.ofInt 64 y).toInt = _
  rw [bv64, BitVec.toNat_and, u64_of, u64_of]
theorem lor_n (x y : Int) : lor x y = s64 (u64 x ||| u64 y) := by
  show (BitVec.ofInt 64 x ||| BitVec.ofInt 64 y).toInt = _
  rw [bv64, BitVec.toNat_or, u64_of, u64_of]
theorem sh32 : ∀ y : Fin 32, ((BitVec.ofInt 32 (y.val : Int)) &&& 31#32).smod 32#32 = BitVec.ofNat 32 y.val := by decide +kernel
theorem sh32' {y : Int} (h0 : 0 ≤ y) (h1 : y < 32) : (((BitVec.ofInt 32 y) &&& 31#32).smod 32#32).toNat = y.toNat := by
  have h := sh32 ⟨y.toNat, by omega⟩
  have e : ((y.toNat : Nat) : Int) = y := by omega
  simp only [e] at h
  rw [h, BitVec.toNat_ofNat]
  omega
theorem isl_n {x y : Int} (h0 : 0 ≤ y) (h1 : y < 32) : isl x y = s32 (u32 x * 2 ^ y.toNat % 4294967296) := by
  show (BitVec.ofInt 32 x <<< ((BitVec.ofInt 32 y &&& 31#32).smod 32#32)).toInt = _
  rw [bv32, BitVec.shiftLeft_eq', BitVec.toNat_shiftLeft, u32_of, sh32' h0 h1, Nat.shiftLeft_eq]
theorem isl_eq {x y : Int} (h0 : 0 ≤ y) (h1 : y < 32) : isl x y = wr (x * 2 ^ y.toNat) := by
  rw [isl_n h0 h1, wr_n]
  congr 1
  unfold u32
  have e : ((x % 4294967296).toNat : Int) = x % 4294967296 := by omega
  have : (((x % 4294967296).toNat * 2 ^ y.toNat % 4294967296 : Nat) : Int) = (x * 2 ^ y.toNat) % 4294967296 := by
    rw [Int.natCast_emod, Int.natCast_mul, e, Int.natCast_pow]
    show x % 4294967296 * 2 ^ y.toNat % 4294967296 = _
    rw [Int.mul_emod, Int.emod_emod_of_dvd _ (Int.dvd_refl _), ← Int.mul_emod]
  omega
theorem isr_eq {x y : Int} (h0 : 0 ≤ y) (h1 : y < 32) : isr x y = wr x / 2 ^ y.toNat := by
  show (BitVec.sshiftRight' (BitVec.ofInt 32 x) ((BitVec.ofInt 32 y &&& 31#32).smod 32#32)).toInt = (BitVec.ofInt 32 x).toInt / 2 ^ y.toNat
  rw [BitVec.sshiftRight_eq', BitVec.toInt_sshiftRight, sh32' h0 h1, Int.shiftRight_eq_div_pow]
  rw [Int.natCast_pow]; rfl
theorem su32 : ∀ y : Fin 32, ((BitVec.ofInt 32 (y.val : Int)) &&& 31#32) % 32#32 = BitVec.ofNat 32 y.val := by decide +kernel
theorem su32' {y : Int} (h0 : 0 ≤ y) (h1 : y < 32) : (((BitVec.ofInt 32 y) &&& 31#32) % 32#32).toNat = y.toNat := by
  have h := su32 ⟨y.toNat, by omega⟩
  have e : ((y.toNat : Nat) : Int) = y := by omega
  simp only [e] at h
  rw [h, BitVec.toNat_ofNat]
  omega
theorem isu_n {x y : Int} (h0 : 0 ≤ y) (h1 : y < 32) : isu x y = s32 (u32 x / 2 ^ y.toNat) := by
  show (BitVec.ofInt 32 x >>> ((BitVec.ofInt 32 y &&& 31#32) % 32#32)).toInt = _
  rw [bv32, BitVec.ushiftRight_eq', BitVec.toNat_ushiftRight, u32_of, su32' h0 h1, Nat.shiftRight_eq_div_pow]
theorem isu_eq {x y : Int} (h0 : 1 ≤ y) (h1 : y < 32) : isu x y = (x % 4294967296) / 2 ^ y.toNat := by
  rw [isu_n (by omega) h1]
  have hp : 2 ≤ 2 ^ y.toNat := by
    have : 2 ^ 1 ≤ 2 ^ y.toNat := Nat.pow_le_pow_right (by omega) (by omega)
    simpa using this
  have hlt : u32 x < 4294967296 := by unfold u32; omega
  have hd : u32 x / 2 ^ y.toNat ≤ u32 x / 2 := Nat.div_le_div_left hp (by omega)
  unfold s32
  rw [if_pos (by omega)]
  rw [Int.natCast_ediv, Int.natCast_pow]
  unfold u32
  have e : ((x % 4294967296).toNat : Int) = x % 4294967296 := by omega
  rw [e]; rfl
theorem i2b_eq (x : Int) : i2b x = (x + 128) % 256 - 128 := by
  have e : i2b x = (wr x).bmod 256 := by
    unfold i2b wr
    rw [Int8.toInt_toInt32, Int32.toInt_toInt8]
  rw [e, wr_eq, Int.bmod_def]
  split <;> omega
theorem i2s_eq (x : Int) : i2s x = (x + 32768) % 65536 - 32768 := by
  have e : i2s x = (wr x).bmod 65536 := by
    unfold i2s wr
    rw [Int16.toInt_toInt32, Int32.toInt_toInt16]
  rw [e, wr_eq, Int.bmod_def]
  split <;> omega
theorem ian_1 (x : Int) : ian x 1 = x % 2 := by
  have e := Nat.and_two_pow_sub_one_eq_mod (u32 x) 1
  rw [ian_n, show u32 1 = 2 ^ 1 - 1 from rfl, e]
  unfold s32 u32
  split <;> omega
theorem ian_3 (x : Int) : ian x 3 = x % 4 := by
  have e := Nat.and_two_pow_sub_one_eq_mod (u32 x) 2
  rw [ian_n, show u32 3 = 2 ^ 2 - 1 from rfl, e]
  unfold s32 u32
  split <;> omega
theorem ian_7 (x : Int) : ian x 7 = x % 8 := by
  have e := Nat.and_two_pow_sub_one_eq_mod (u32 x) 3
  rw [ian_n, show u32 7 = 2 ^ 3 - 1 from rfl, e]
  unfold s32 u32
  split <;> omega
theorem ian_15 (x : Int) : ian x 15 = x % 16 := by
  have e := Nat.and_two_pow_sub_one_eq_mod (u32 x) 4
  rw [ian_n, show u32 15 = 2 ^ 4 - 1 from rfl, e]
  unfold s32 u32
  split <;> omega
theorem ian_31 (x : Int) : ian x 31 = x % 32 := by
  have e := Nat.and_two_pow_sub_one_eq_mod (u32 x) 5
  rw [ian_n, show u32 31 = 2 ^ 5 - 1 from rfl, e]
  unfold s32 u32
  split <;> omega
theorem ian_63 (x : Int) : ian x 63 = x % 64 := by
  have e := Nat.and_two_pow_sub_one_eq_mod (u32 x) 6
  rw [ian_n, show u32 63 = 2 ^ 6 - 1 from rfl, e]
  unfold s32 u32
  split <;> omega
theorem ian_127 (x : Int) : ian x 127 = x % 128 := by
  have e := Nat.and_two_pow_sub_one_eq_mod (u32 x) 7
  rw [ian_n, show u32 127 = 2 ^ 7 - 1 from rfl, e]
  unfold s32 u32
  split <;> omega
theorem ian_255 (x : Int) : ian x 255 = x % 256 := by
  have e := Nat.and_two_pow_sub_one_eq_mod (u32 x) 8
  rw [ian_n, show u32 255 = 2 ^ 8 - 1 from rfl, e]
  unfold s32 u32
  split <;> omega
theorem ian_511 (x : Int) : ian x 511 = x % 512 := by
  have e := Nat.and_two_pow_sub_one_eq_mod (u32 x) 9
  rw [ian_n, show u32 511 = 2 ^ 9 - 1 from rfl, e]
  unfold s32 u32
  split <;> omega
theorem ian_1023 (x : Int) : ian x 1023 = x % 1024 := by
  have e := Nat.and_two_pow_sub_one_eq_mod (u32 x) 10
  rw [ian_n, show u32 1023 = 2 ^ 10 - 1 from rfl, e]
  unfold s32 u32
  split <;> omega
theorem ian_2047 (x : Int) : ian x 2047 = x % 2048 := by
  have e := Nat.and_two_pow_sub_one_eq_mod (u32 x) 11
  rw [ian_n, show u32 2047 = 2 ^ 11 - 1 from rfl, e]
  unfold s32 u32
  split <;> omega
theorem ian_4095 (x : Int) : ian x 4095 = x % 4096 := by
  have e := Nat.and_two_pow_sub_one_eq_mod (u32 x) 12
  rw [ian_n, show u32 4095 = 2 ^ 12 - 1 from rfl, e]
  unfold s32 u32
  split <;> omega
theorem ian_8191 (x : Int) : ian x 8191 = x % 8192 := by
  have e := Nat.and_two_pow_sub_one_eq_mod (u32 x) 13
  rw [ian_n, show u32 8191 = 2 ^ 13 - 1 from rfl, e]
  unfold s32 u32
  split <;> omega
theorem ian_16383 (x : Int) : ian x 16383 = x % 16384 := by
  have e := Nat.and_two_pow_sub_one_eq_mod (u32 x) 14
  rw [ian_n, show u32 16383 = 2 ^ 14 - 1 from rfl, e]
  unfold s32 u32
  split <;> omega
theorem ian_32767 (x : Int) : ian x 32767 = x % 32768 := by
  have e := Nat.and_two_pow_sub_one_eq_mod (u32 x) 15
  rw [ian_n, show u32 32767 = 2 ^ 15 - 1 from rfl, e]
  unfold s32 u32
  split <;> omega
theorem ian_65535 (x : Int) : ian x 65535 = x % 65536 := by
  have e := Nat.and_two_pow_sub_one_eq_mod (u32 x) 16
  rw [ian_n, show u32 65535 = 2 ^ 16 - 1 from rfl, e]
  unfold s32 u32
  split <;> omega
theorem ian_1048575 (x : Int) : ian x 1048575 = x % 1048576 := by
  have e := Nat.and_two_pow_sub_one_eq_mod (u32 x) 20
  rw [ian_n, show u32 1048575 = 2 ^ 20 - 1 from rfl, e]
  unfold s32 u32
  split <;> omega
theorem ian_16777215 (x : Int) : ian x 16777215 = x % 16777216 := by
  have e := Nat.and_two_pow_sub_one_eq_mod (u32 x) 24
  rw [ian_n, show u32 16777215 = 2 ^ 24 - 1 from rfl, e]
  unfold s32 u32
  split <;> omega
theorem lan_1 (x : Int) : lan x 1 = x % 2 := by
  have e := Nat.and_two_pow_sub_one_eq_mod (u64 x) 1
  rw [lan_n, show u64 1 = 2 ^ 1 - 1 from rfl, e]
  unfold s64 u64
  split <;> omega
theorem lan_31 (x : Int) : lan x 31 = x % 32 := by
  have e := Nat.and_two_pow_sub_one_eq_mod (u64 x) 5
  rw [lan_n, show u64 31 = 2 ^ 5 - 1 from rfl, e]
  unfold s64 u64
  split <;> omega
theorem lan_255 (x : Int) : lan x 255 = x % 256 := by
  have e := Nat.and_two_pow_sub_one_eq_mod (u64 x) 8
  rw [lan_n, show u64 255 = 2 ^ 8 - 1 from rfl, e]
  unfold s64 u64
  split <;> omega
theorem lan_65535 (x : Int) : lan x 65535 = x % 65536 := by
  have e := Nat.and_two_pow_sub_one_eq_mod (u64 x) 16
  rw [lan_n, show u64 65535 = 2 ^ 16 - 1 from rfl, e]
  unfold s64 u64
  split <;> omega
theorem lan_4294967295 (x : Int) : lan x 4294967295 = x % 4294967296 := by
  have e := Nat.and_two_pow_sub_one_eq_mod (u64 x) 32
  rw [lan_n, show u64 4294967295 = 2 ^ 32 - 1 from rfl, e]
  unfold s64 u64
  split <;> omega
/-- or of what lies above and what lies below -/
theorem nor_add {a b k : Nat} (ha : a % 2 ^ k = 0) (hb : b < 2 ^ k) : a ||| b = a + b := by
  have e : a = 2 ^ k * (a / 2 ^ k) := by have := Nat.div_add_mod a (2 ^ k); omega
  rw [e]
  exact (Nat.two_pow_add_eq_or_of_lt hb _).symm
theorem ior_p1 {x y : Int} (hx : x % 2 = 0) (h0 : 0 ≤ y) (h1 : y < 2) : ior x y = wr (x + y) := by
  have e := nor_add (a := u32 x) (b := u32 y) (k := 1) (by unfold u32; omega) (by unfold u32; omega)
  rw [ior_n, e, wr_n]
  congr 1
  unfold u32
  omega
theorem ior_p2 {x y : Int} (hx : x % 4 = 0) (h0 : 0 ≤ y) (h1 : y < 4) : ior x y = wr (x + y) := by
  have e := nor_add (a := u32 x) (b := u32 y) (k := 2) (by unfold u32; omega) (by unfold u32; omega)
  rw [ior_n, e, wr_n]
  congr 1
  unfold u32
  omega
theorem ior_p3 {x y : Int} (hx : x % 8 = 0) (h0 : 0 ≤ y) (h1 : y < 8) : ior x y = wr (x + y) := by
  have e := nor_add (a := u32 x) (b := u32 y) (k := 3) (by unfold u32; omega) (by unfold u32; omega)
  rw [ior_n, e, wr_n]
  congr 1
  unfold u32
  omega
theorem ior_p4 {x y : Int} (hx : x % 16 = 0) (h0 : 0 ≤ y) (h1 : y < 16) : ior x y = wr (x + y) := by
  have e := nor_add (a := u32 x) (b := u32 y) (k := 4) (by unfold u32; omega) (by unfold u32; omega)
  rw [ior_n, e, wr_n]
  congr 1
  unfold u32
  omega
theorem ior_p5 {x y : Int} (hx : x % 32 = 0) (h0 : 0 ≤ y) (h1 : y < 32) : ior x y = wr (x + y) := by
  have e := nor_add (a := u32 x) (b := u32 y) (k := 5) (by unfold u32; omega) (by unfold u32; omega)
  rw [ior_n, e, wr_n]
  congr 1
  unfold u32
  omega
theorem ior_p6 {x y : Int} (hx : x % 64 = 0) (h0 : 0 ≤ y) (h1 : y < 64) : ior x y = wr (x + y) := by
  have e := nor_add (a := u32 x) (b := u32 y) (k := 6) (by unfold u32; omega) (by unfold u32; omega)
  rw [ior_n, e, wr_n]
  congr 1
  unfold u32
  omega
theorem ior_p7 {x y : Int} (hx : x % 128 = 0) (h0 : 0 ≤ y) (h1 : y < 128) : ior x y = wr (x + y) := by
  have e := nor_add (a := u32 x) (b := u32 y) (k := 7) (by unfold u32; omega) (by unfold u32; omega)
  rw [ior_n, e, wr_n]
  congr 1
  unfold u32
  omega
theorem ior_p8 {x y : Int} (hx : x % 256 = 0) (h0 : 0 ≤ y) (h1 : y < 256) : ior x y = wr (x + y) := by
  have e := nor_add (a := u32 x) (b := u32 y) (k := 8) (by unfold u32; omega) (by unfold u32; omega)
  rw [ior_n, e, wr_n]
  congr 1
  unfold u32
  omega
theorem ior_p16 {x y : Int} (hx : x % 65536 = 0) (h0 : 0 ≤ y) (h1 : y < 65536) : ior x y = wr (x + y) := by
  have e := nor_add (a := u32 x) (b := u32 y) (k := 16) (by unfold u32; omega) (by unfold u32; omega)
  rw [ior_n, e, wr_n]
  congr 1
  unfold u32
  omega
theorem ior_p24 {x y : Int} (hx : x % 16777216 = 0) (h0 : 0 ≤ y) (h1 : y < 16777216) : ior x y = wr (x + y) := by
  have e := nor_add (a := u32 x) (b := u32 y) (k := 24) (by unfold u32; omega) (by unfold u32; omega)
  rw [ior_n, e, wr_n]
  congr 1
  unfold u32
  omega
theorem sh64 : ∀ y : Fin 64, ((BitVec.ofInt 64 (y.val : Int)) &&& 63#64).smod 64#64 = BitVec.ofNat 64 y.val := by decide +kernel
theorem st_eq (h : Mem) (a j v : Int) : st h a j v a j = v := by rw [st_ap, if_pos ⟨rfl, rfl⟩]
theorem st_na {h : Mem} {a j v a' j' : Int} (q : a' ≠ a) : st h a j v a' j' = h a' j' := by rw [st_ap, if_neg (fun c => q c.1)]
theorem st_nj {h : Mem} {a j v a' j' : Int} (q : j' ≠ j) : st h a j v a' j' = h a' j' := by rw [st_ap, if_neg (fun c => q c.2)]
theorem wr_id {x : Int} (h : i32 x) : wr x = x := by rw [wr_eq]; have := h.1; have := h.2; omega
theorem wl_id {x : Int} (h : i64 x) : wl x = x := by rw [wl_eq]; have := h.1; have := h.2; omega
theorem wr_r (x : Int) : i32 (wr x) := by rw [wr_eq]; constructor <;> omega
theorem i2b_wr (x : Int) : i2b (wr x) = i2b x := by rw [i2b_eq, i2b_eq, wr_eq]; omega
theorem i2s_wr (x : Int) : i2s (wr x) = i2s x := by rw [i2s_eq, i2s_eq, wr_eq]; omega
theorem sx64 : ∀ y : Fin 64, ((BitVec.signExtend 64 (BitVec.ofInt 32 (y.val : Int))) &&& 63#64).smod 64#64 = BitVec.ofNat 64 y.val := by decide +kernel
theorem sx64' {y : Int} (h0 : 0 ≤ y) (h1 : y < 64) : (((BitVec.signExtend 64 (BitVec.ofInt 32 y)) &&& 63#64).smod 64#64).toNat = y.toNat := by
  have h := sx64 ⟨y.toNat, by omega⟩
  have e : ((y.toNat : Nat) : Int) = y := by omega
  simp only [e] at h
  rw [h, BitVec.toNat_ofNat]
  omega
theorem lsl_n {x y : Int} (h0 : 0 ≤ y) (h1 : y < 64) : lsl x y = s64 (u64 x * 2 ^ y.toNat % 18446744073709551616) := by
  show (BitVec.ofInt 64 x <<< (((BitVec.signExtend 64 (BitVec.ofInt 32 y)) &&& 63#64).smod 64#64)).toInt = _
  rw [bv64, BitVec.shiftLeft_eq', BitVec.toNat_shiftLeft, u64_of, sx64' h0 h1, Nat.shiftLeft_eq]
theorem lsl_eq {x y : Int} (h0 : 0 ≤ y) (h1 : y < 64) : lsl x y = wl (x * 2 ^ y.toNat) := by
  rw [lsl_n h0 h1, wl_n]
  congr 1
  unfold u64
  have e : ((x % 18446744073709551616).toNat : Int) = x % 18446744073709551616 := by omega
  have : (((x % 18446744073709551616).toNat * 2 ^ y.toNat % 18446744073709551616 : Nat) : Int) = (x * 2 ^ y.toNat) % 18446744073709551616 := by
    rw [Int.natCast_emod, Int.natCast_mul, e, Int.natCast_pow]
    show x % 18446744073709551616 * 2 ^ y.toNat % 18446744073709551616 = _
    rw [Int.mul_emod, Int.emod_emod_of_dvd _ (Int.dvd_refl _), ← Int.mul_emod]
  omega
theorem lsr_eq {x y : Int} (h0 : 0 ≤ y) (h1 : y < 64) : lsr x y = wl x / 2 ^ y.toNat := by
  show (BitVec.sshiftRight' (BitVec.ofInt 64 x) (((BitVec.signExtend 64 (BitVec.ofInt 32 y)) &&& 63#64).smod 64#64)).toInt = (BitVec.ofInt 64 x).toInt / 2 ^ y.toNat
  rw [BitVec.sshiftRight_eq', BitVec.toInt_sshiftRight, sx64' h0 h1, Int.shiftRight_eq_div_pow]
  rw [Int.natCast_pow]; rfl
theorem sy64 : ∀ y : Fin 64, ((BitVec.signExtend 64 (BitVec.ofInt 32 (y.val : Int))) &&& 63#64) % 64#64 = BitVec.ofNat 64 y.val := by decide +kernel
theorem sy64' {y : Int} (h0 : 0 ≤ y) (h1 : y < 64) : (((BitVec.signExtend 64 (BitVec.ofInt 32 y)) &&& 63#64) % 64#64).toNat = y.toNat := by
  have h := sy64 ⟨y.toNat, by omega⟩
  have e : ((y.toNat : Nat) : Int) = y := by omega
  simp only [e] at h
  rw [h, BitVec.toNat_ofNat]
  omega
theorem lsu_n {x y : Int} (h0 : 0 ≤ y) (h1 : y < 64) : lsu x y = s64 (u64 x / 2 ^ y.toNat) := by
  show (BitVec.ofInt 64 x >>> (((BitVec.signExtend 64 (BitVec.ofInt 32 y)) &&& 63#64) % 64#64)).toInt = _
  rw [bv64, BitVec.ushiftRight_eq', BitVec.toNat_ushiftRight, u64_of, sy64' h0 h1, Nat.shiftRight_eq_div_pow]
theorem lsu_eq {x y : Int} (h0 : 1 ≤ y) (h1 : y < 64) : lsu x y = (x % 18446744073709551616) / 2 ^ y.toNat := by
  rw [lsu_n (by omega) h1]
  have hp : 2 ≤ 2 ^ y.toNat := by
    have : 2 ^ 1 ≤ 2 ^ y.toNat := Nat.pow_le_pow_right (by omega) (by omega)
    simpa using this
  have hlt : u64 x < 18446744073709551616 := by unfold u64; omega
  have hd : u64 x / 2 ^ y.toNat ≤ u64 x / 2 := Nat.div_le_div_left hp (by omega)
  unfold s64
  rw [if_pos (by omega)]
  rw [Int.natCast_ediv, Int.natCast_pow]
  unfold u64
  have e : ((x % 18446744073709551616).toNat : Int) = x % 18446744073709551616 := by omega
  rw [e]; rfl
theorem lsu_0 (x : Int) : lsu x 0 = wl x := by
  rw [lsu_n (by omega) (by omega), wl_n]; simp
