set_option maxRecDepth 100000
/-- the bytes of the adjustment, house and model -/
theorem adj_b {u v : Int} (v0 : 0 ≤ v ∧ v < 4294967296) (e : u % 4294967296 = v) : i2b (wr (lsr v 24)) = i2b (isr (isu u 16) 8) ∧ i2b (wr (lsr v 16)) = i2b (isu u 16) ∧ i2b (wr (lsr v 8)) = i2b (isr u 8) ∧ i2b (wr (lsr v 0)) = i2b u := by
  have l : ∀ y : Int, 0 ≤ y → y < 64 → lsr v y = v / 2 ^ y.toNat := fun y a b => by rw [lsr_eq a b, wl_id (by unfold i64; omega)]
  rw [l 24 (by omega) (by omega), l 16 (by omega) (by omega), l 8 (by omega) (by omega), l 0 (by omega) (by omega), isr_eq (by omega) (by omega), isr_eq (by omega) (by omega), isu_eq (by omega) (by omega)]
  simp only [i2b_eq, wr_eq]
  show ((v / 16777216 + 2147483648) % 4294967296 - 2147483648 + 128) % 256 - 128 = (((u % 4294967296 / 65536 + 2147483648) % 4294967296 - 2147483648) / 256 + 128) % 256 - 128 ∧ ((v / 65536 + 2147483648) % 4294967296 - 2147483648 + 128) % 256 - 128 = (u % 4294967296 / 65536 + 128) % 256 - 128 ∧ ((v / 256 + 2147483648) % 4294967296 - 2147483648 + 128) % 256 - 128 = (((u + 2147483648) % 4294967296 - 2147483648) / 256 + 128) % 256 - 128 ∧ ((v / 1 + 2147483648) % 4294967296 - 2147483648 + 128) % 256 - 128 = (u + 128) % 256 - 128
  refine ⟨?_, ?_, ?_, ?_⟩ <;> omega
