set_option maxRecDepth 100000
/-- the four bytes of these numbers, as the house adds them and as the model sets them -/
theorem by4_65536 : [i2b (isr (isu 65536 16) 8), i2b (isu 65536 16), i2b (isr 65536 8), i2b 65536] = [0, 1, 0, 0] := by decide +kernel
theorem by4_0 : [i2b (isr (isu 0 16) 8), i2b (isu 0 16), i2b (isr 0 8), i2b 0] = [0, 0, 0, 0] := by decide +kernel
theorem by4_mag : [i2b (isr (isu 1594834165 16) 8), i2b (isu 1594834165 16), i2b (isr 1594834165 8), i2b 1594834165] = [95, 15, 60, -11] := by decide +kernel
theorem by4_20480 : [i2b (isr (isu 20480 16) 8), i2b (isu 20480 16), i2b (isr 20480 8), i2b 20480] = [0, 0, 80, 0] := by decide +kernel
theorem by2_1000 : [i2b (isr 1000 8), i2b 1000] = [3, -24] := by decide +kernel
theorem by2_0 : [i2b (isr 0 8), i2b 0] = [0, 0] := by decide +kernel
theorem by2_8 : [i2b (isr 8 8), i2b 8] = [0, 8] := by decide +kernel
theorem by2_2 : [i2b (isr 2 8), i2b 2] = [0, 2] := by decide +kernel
theorem by2_1 : [i2b (isr 1 8), i2b 1] = [0, 1] := by decide +kernel
theorem bl4_65536 : i2b (isr (wr (lsr 65536 16)) 8) = 0 ∧ i2b (wr (lsr 65536 16)) = 1 ∧ i2b (isr (wr 65536) 8) = 0 ∧ i2b (wr 65536) = 0 := by decide +kernel
theorem bl4_mag : i2b (isr (wr (lsr 1594834165 16)) 8) = 95 ∧ i2b (wr (lsr 1594834165 16)) = 15 ∧ i2b (isr (wr 1594834165) 8) = 60 ∧ i2b (wr 1594834165) = -11 := by decide +kernel
theorem bl4_20480 : i2b (isr (wr (lsr 20480 16)) 8) = 0 ∧ i2b (wr (lsr 20480 16)) = 0 ∧ i2b (isr (wr 20480) 8) = 80 ∧ i2b (wr 20480) = 0 := by decide +kernel
