set_option maxRecDepth 100000
def f2 (v : Int) : List Int := [i2b (isr v 8), i2b v]
def f4 (v : Int) : List Int := [i2b (isr (isu v 16) 8), i2b (isu v 16), i2b (isr v 8), i2b v]
/-- how often 2 goes: the least s with count below 2 * 2^s -/
def sgc (c : Int) : Int := if c < 2 then 0 else if c < 4 then 1 else if c < 8 then 2 else if c < 16 then 3 else 4
def dirE (t s l z : Int → Int) : Nat → List Int
  | 0 => []
  | k + 1 => dirE t s l z k ++ (f4 (wr (t k)) ++ f4 (s k) ++ f4 (l k) ++ f4 (z k))
def dirL (fl c : Int) (t s l z : Int → Int) : List Int := f4 fl ++ f2 c ++ f2 (isl 16 (sgc c)) ++ f2 (sgc c) ++ f2 (16 * c - isl 16 (sgc c)) ++ dirE t s l z c.toNat
theorem sgc_0 : isl 2 0 = 2 ∧ isl 2 1 = 4 ∧ isl 2 2 = 8 ∧ isl 2 3 = 16 ∧ isl 2 4 = 32 := ⟨by decide +kernel, by decide +kernel, by decide +kernel, by decide +kernel, by decide +kernel⟩
theorem sgc_6 : isl 16 0 = 16 ∧ isl 16 1 = 32 ∧ isl 16 2 = 64 ∧ isl 16 3 = 128 ∧ isl 16 4 = 256 := ⟨by decide +kernel, by decide +kernel, by decide +kernel, by decide +kernel, by decide +kernel⟩
theorem sgc_r {c : Int} : (0 ≤ sgc c ∧ sgc c ≤ 4) ∧ 16 ≤ isl 16 (sgc c) ∧ isl 16 (sgc c) ≤ 256 := by
  obtain ⟨a0, a1, a2, a3, a4⟩ := sgc_6
  unfold sgc
  split
  · omega
  · split
    · omega
    · split
      · omega
      · split <;> omega
/-- s steps up as long as the count is not below 2 * 2^s -/
theorem sgc_s {c : Int} (c0 : 0 ≤ c ∧ c ≤ 16) (s : Int) (s0 : 0 ≤ s ∧ s ≤ sgc c) : (c < isl 2 s ↔ s = sgc c) := by
  obtain ⟨a0, a1, a2, a3, a4⟩ := sgc_0
  have r := (sgc_r (c := c)).1
  have e : sgc c = 0 ∧ c < 2 ∨ sgc c = 1 ∧ 2 ≤ c ∧ c < 4 ∨ sgc c = 2 ∧ 4 ≤ c ∧ c < 8 ∨ sgc c = 3 ∧ 8 ≤ c ∧ c < 16 ∨ sgc c = 4 ∧ 16 ≤ c := by
    unfold sgc
    split
    · omega
    · split
      · omega
      · split
        · omega
        · split <;> omega
  have q : s = 0 ∨ s = 1 ∨ s = 2 ∨ s = 3 ∨ s = 4 := by omega
  rcases q with y | y | y | y | y <;> subst y <;> omega
section
variable {A B : Qt → Prop} {Φ : Out → Int → Mem → Out → Int → Mem → Prop} {KL KM : Qt → Qt} {n m : Int} {h w : Mem}
end
