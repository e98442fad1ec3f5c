set_option maxRecDepth 100000
theorem u64_s {N : Nat} (l : N < 18446744073709551616) : u64 (s64 N) = N := by unfold u64 s64; split <;> omega
theorem p2_64 {g : Nat} (g1 : g < 64) : (2 : Nat) ^ g < 18446744073709551616 := by
  have := Nat.pow_lt_pow_right (a := 2) (by omega) g1
  rw [show (2 : Nat) ^ 64 = 18446744073709551616 by decide +kernel] at this
  exact this
theorem or_64 {a b : Nat} (ha : a < 18446744073709551616) (hb : b < 18446744073709551616) : a ||| b < 18446744073709551616 := by
  rw [show (18446744073709551616 : Nat) = 2 ^ 64 by decide +kernel] at *
  exact Nat.or_lt_two_pow ha hb
theorem lor_b {N : Nat} {g : Int} (l : N < 18446744073709551616) (g0 : 0 ≤ g ∧ g < 64) : lor (s64 N) (lsl 1 g) = s64 (N ||| 2 ^ g.toNat) := by
  have := p2_64 (g := g.toNat) (by omega)
  rw [lor_n, lsl_n g0.1 g0.2, u64_s l, show u64 1 = 1 from rfl, Nat.one_mul, Nat.mod_eq_of_lt this, u64_s this]
theorem lor_z {N : Nat} (l : N < 18446744073709551616) : lor (s64 N) 0 = s64 N := by
  rw [lor_n, u64_s l, show u64 0 = 0 from rfl, Nat.or_zero]
theorem lbit {N : Nat} {i : Int} (l : N < 18446744073709551616) (i0 : 0 ≤ i ∧ i < 64) : lan (lsr (s64 N) i) 1 = if N.testBit i.toNat then 1 else 0 := by
  rw [lan_1, lsr_eq i0.1 i0.2, wl_n, u64_s l]
  have e : (s64 N / 2 ^ i.toNat) % 2 = ((N / 2 ^ i.toNat : Nat) : Int) % 2 := by
    unfold s64
    split
    · rw [Int.natCast_ediv, Int.natCast_pow]; rfl
    · have q : (18446744073709551616 : Int) = 2 ^ i.toNat * (2 * 2 ^ (63 - i.toNat)) := by
        have : (2 : Int) ^ 64 = 18446744073709551616 := by decide +kernel
        rw [← this, ← Int.mul_assoc, Int.mul_comm _ 2, Int.mul_assoc, ← Int.pow_add, show i.toNat + (63 - i.toNat) = 63 by omega]
        rfl
      rw [q, Int.sub_eq_add_neg, ← Int.mul_neg, Int.add_mul_ediv_left _ _ (Int.ne_of_gt (Int.pow_pos (by omega))), Int.natCast_ediv, Int.natCast_pow]
      generalize (2 : Int) ^ (63 - i.toNat) = y
      show (_ + -(2 * y)) % 2 = _
      have : ∀ x : Int, (x + -(2 * y)) % 2 = x % 2 := fun x => by omega
      exact this _
  rw [e, Nat.testBit_eq_decide_div_mod_eq]
  have : N / 2 ^ i.toNat % 2 < 2 := Nat.mod_lt _ (by omega)
  by_cases q : N / 2 ^ i.toNat % 2 = 1
  · rw [if_pos (by simpa using q)]; omega
  · rw [if_neg (by simpa using q)]; omega
/-- the bits of the overlaps of glyphs below g -/
def OVN (ov : Int → Int) (g : Int) (N : Nat) : Prop := N < 18446744073709551616 ∧ ∀ i : Nat, N.testBit i = decide ((i : Int) < g ∧ ov i ≠ 0)
theorem ovn_0 {ov : Int → Int} : OVN ov 0 0 := ⟨by omega, fun i => by rw [Nat.zero_testBit]; simp; omega⟩
theorem ovn_n {ov : Int → Int} {g : Int} {N : Nat} (O : OVN ov g N) (g0 : 0 ≤ g) (e : ov g = 0) : OVN ov (g + 1) N := by
  refine ⟨O.1, fun i => ?_⟩
  rw [O.2 i]
  by_cases q : (i : Int) = g
  · rw [q, e]; simp
  · have : ((i : Int) < g) ↔ ((i : Int) < g + 1) := by omega
    simp only [this]
theorem ovn_y {ov : Int → Int} {g : Int} {N : Nat} (O : OVN ov g N) (g0 : 0 ≤ g ∧ g < 64) (e : ov g ≠ 0) : OVN ov (g + 1) (N ||| 2 ^ g.toNat) := by
  refine ⟨or_64 O.1 (p2_64 (by omega)), fun i => ?_⟩
  rw [Nat.testBit_or, O.2 i, Nat.testBit_two_pow]
  by_cases q : (i : Int) = g
  · have : g.toNat = i := by omega
    rw [q]; simp [this, e]; omega
  · have h1 : ((i : Int) < g) ↔ ((i : Int) < g + 1) := by omega
    have h2 : ¬ g.toNat = i := by omega
    simp only [h1, h2, decide_false, Bool.or_false]
theorem ovn_c {ov ov' : Int → Int} {g : Int} {N : Nat} (O : OVN ov g N) (e : ∀ i, 0 ≤ i → i < g → ov' i = ov i) : OVN ov' g N := by
  refine ⟨O.1, fun i => ?_⟩
  rw [O.2 i]
  by_cases q : (i : Int) < g
  · rw [e i (by omega) q]
  · simp [q]
theorem ovn_z {ov : Int → Int} {g : Int} {N : Nat} (O : OVN ov g N) : N = 0 ↔ ∀ i, 0 ≤ i → i < g → ov i = 0 := by
  constructor
  · intro e i i0 i1
    have := O.2 i.toNat
    rw [e, Nat.zero_testBit, show ((i.toNat : Nat) : Int) = i by omega] at this
    apply Classical.byContradiction
    intro ne
    simp [i1, ne] at this
  · intro a
    apply Nat.eq_of_testBit_eq
    intro i
    rw [O.2 i, Nat.zero_testBit]
    simp
    intro q
    exact a i (by omega) q
theorem s64_z {N : Nat} (l : N < 18446744073709551616) : s64 N = 0 ↔ N = 0 := by unfold s64; split <;> omega
/-- a byte of overlaps -/
def obv (ov : Int → Int) (G k : Int) : Nat → Int
  | 0 => 0
  | j + 1 => ior (obv ov G k j) (if 8 * k + j < G ∧ ov (8 * k + j) ≠ 0 then isr 128 j else 0)
theorem b128 : ∀ j : Fin 8, isl 1 (7 - (j.val : Int)) = isr 128 j.val ∧ isl 0 (7 - (j.val : Int)) = 0 ∧ 0 ≤ isr 128 j.val ∧ isr 128 j.val < 256 := by decide +kernel
theorem b128' {j : Int} (j0 : 0 ≤ j ∧ j < 8) : isl 1 (7 - j) = isr 128 j ∧ isl 0 (7 - j) = 0 ∧ 0 ≤ isr 128 j ∧ isr 128 j < 256 := by
  have := b128 ⟨j.toNat, by omega⟩
  simp only [show ((j.toNat : Nat) : Int) = j by omega] at this
  exact this
theorem ior_bb {x y : Int} (x0 : 0 ≤ x ∧ x < 256) (y0 : 0 ≤ y ∧ y < 256) : 0 ≤ ior x y ∧ ior x y < 256 := by
  rw [ior_n]
  have : u32 x ||| u32 y < 2 ^ 8 := Nat.or_lt_two_pow (by unfold u32; omega) (by unfold u32; omega)
  unfold s32
  split <;> omega
theorem ior_z2 {x : Int} (x0 : 0 ≤ x ∧ x < 256) : ior x 0 = x := by
  rw [ior_n, show u32 0 = 0 from rfl, Nat.or_zero]
  unfold s32 u32
  split <;> omega
theorem obv_r (ov : Int → Int) (G k : Int) : ∀ j : Nat, j ≤ 8 → 0 ≤ obv ov G k j ∧ obv ov G k j < 256 := by
  intro j
  induction j with
  | zero => intro _; simp [obv]
  | succ j ih =>
    intro hj
    have b := b128' (j := j) (by omega)
    rw [obv]
    refine ior_bb (ih (by omega)) ?_
    split <;> omega
/-- bits behind the last glyph are zero -/
theorem obv_e {ov : Int → Int} {G k : Int} {j : Nat} (e : G ≤ 8 * k + j) : ∀ d : Nat, j + d ≤ 8 → obv ov G k (j + d) = obv ov G k j := by
  intro d
  induction d with
  | zero => intro _; rfl
  | succ d ih =>
    intro hd
    rw [← Nat.add_assoc, obv, if_neg (by omega), ih (by omega), ior_z2 (obv_r ov G k j (by omega))]
def ovL (ov : Int → Int) (G : Int) : Nat → List Int
  | 0 => []
  | k + 1 => ovL ov G k ++ [i2b (obv ov G k 8)]
theorem ovL_l (ov : Int → Int) (G : Int) : ∀ k : Nat, (ovL ov G k).length = k := by
  intro k
  induction k with
  | zero => rfl
  | succ k ih => rw [ovL, List.length_append, ih]; rfl
