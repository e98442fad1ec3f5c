set_option maxRecDepth 100000
/- Packer.putEntry(IZ)V -/
def s196_0 : List E := [(.aload_n 0, 0, [0]), (.getfield 18, 1, [13, 0, 29, 1]), (.getfield 161, 5, [14, 5, 91, 1]), (.iload_n 1, 0, [1]), (.aaload, 0, [45, 2]), (.astore_n 3, 0, [3]), (.aload_n 0, 0, [0]), (.getfield 18, 1, [13, 0, 29, 1]), (.getfield 162, 1, [14, 1, 87, 1]), (.iload_n 1, 0, [1]), (.laload, 0, []), (.lstore 4, 0, [4]), (.aload_n 0, 0, [0]), (.getfield 18, 1, [13, 0, 29, 1]), (.getfield 163, 3, [14, 3, 81, 1]), (.iload_n 1, 0, [1]), (.aload_n 3, 0, [3]), (.getfield 158, 0, [1, 1, 0]), (.iastore, 0, []), (.aload_n 0, 0, [0]), (.getfield 27, 8, [13, 1, 3, 1]), (.getfield 158, 0, [1, 1, 0]), (.istore 6, 0, [6]), (.lload 4, 0, [4]), (.getstatic 87, 1735162214, [5]), (.lcmp, 0, []), (.ifCond .ne 11, 0, [60]), (.aload_n 0, 0, [0]), (.iload_n 1, 0, [1]), (.invokevirtual 166, 0, [197, 13, 27, 8, 0, 3, 0]), (.goto 86, 0, [143])]
def s196_60 : List E := [(.lload 4, 0, [4]), (.getstatic 64, 1819239265, [4]), (.lcmp, 0, []), (.ifCond .ne 25, 0, [91]), (.aload_n 0, 0, [0]), (.getfield 18, 1, [13, 0, 29, 1]), (.getfield 169, 2, [14, 2, 81, 1]), (.iload_n 1, 0, [1]), (.iconst 1, 1, []), (.isub, 0, []), (.iaload, 0, []), (.ifCond .ne 7, 0, [87]), (.iconst 1, 1, []), (.goto 59, 0, [143])]
def s196_87 : List E := [(.iconst 0, 0, []), (.goto 55, 0, [143])]
def s196_91 : List E := [(.lload 4, 0, [4]), (.getstatic 172, 1752003704, [3]), (.lcmp, 0, []), (.ifCond .ne 45, 0, [142]), (.iload_n 2, 0, [2]), (.ifCond .eq 41, 0, [142]), (.aload_n 0, 0, [0]), (.getfield 3, -401, [13, 5, 1, 1]), (.getfield 90, 348, [0, 10, 21, 1]), (.aload_n 0, 0, [0]), (.getfield 3, -401, [13, 5, 1, 1]), (.getfield 47, 7, [0, 6, 5, 1]), (.getfield 51, 2, [2, 1, 93, 1]), (.aload_n 0, 0, [0]), (.getfield 18, 1, [13, 0, 29, 1]), (.getfield 117, 6, [14, 6, 81, 1]), (.iload_n 1, 0, [1]), (.iaload, 0, []), (.aaload, 0, [46, 6]), (.iconst 1, 1, []), (.invokevirtual 120, 0, [145, 10, 21, 30, 0, 0, 3, 9]), (.ifCond .ne 7, 0, [142]), (.iconst 1, 1, []), (.goto 4, 0, [143])]
def s196_142 : List E := [(.iconst 0, 0, []), (.nop, 0, [143])]
def s196_143 : List E := [(.istore 7, 0, [7]), (.lload 4, 0, [4]), (.getstatic 172, 1752003704, [3]), (.lcmp, 0, []), (.ifCond .ne 15, 0, [166]), (.iload 7, 0, [7]), (.ifCond .eq 10, 0, [166]), (.aload_n 0, 0, [0]), (.invokevirtual 175, 0, [198, 13, 27, 30, 0, 0]), (.goto 4, 0, [167])]
def s196_166 : List E := [(.iconst 0, 0, []), (.nop, 0, [167])]
def s196_167 : List E := [(.istore 8, 0, [8]), (.lload 4, 0, [4]), (.getstatic 87, 1735162214, [5]), (.lcmp, 0, []), (.ifCond .ne 30, 0, [205]), (.iload 7, 0, [7]), (.ifCond .eq 25, 0, [205]), (.aload_n 0, 0, [0]), (.getfield 27, 8, [13, 1, 3, 1]), (.aload_n 0, 0, [0]), (.getfield 34, 12, [13, 3, 3, 1]), (.iconst 0, 0, []), (.aload_n 0, 0, [0]), (.getfield 34, 12, [13, 3, 3, 1]), (.getfield 158, 0, [1, 1, 0]), (.invokevirtual 179, 0, [115, 1, 3, 164, 0, 100, 0, 0, 7]), (.goto 129, 0, [331])]
def s196_205 : List E := [(.iload 8, 0, [8]), (.ifCond .le 22, 0, [229]), (.aload_n 0, 0, [0]), (.getfield 18, 1, [13, 0, 29, 1]), (.getfield 169, 2, [14, 2, 81, 1]), (.iload_n 1, 0, [1]), (.iconst 1, 1, []), (.iastore, 0, []), (.aload_n 0, 0, [0]), (.iload 8, 0, [8]), (.invokevirtual 183, 0, [199, 13, 27, 141, 0, 100, 0]), (.goto 105, 0, [331])]
def s196_229 : List E := [(.lload 4, 0, [4]), (.getstatic 64, 1819239265, [4]), (.lcmp, 0, []), (.ifCond .ne 8, 0, [243]), (.iload 7, 0, [7]), (.ifCond .ne 91, 0, [331]), (.nop, 0, [243])]
def s196_243 : List E := [(.lload 4, 0, [4]), (.getstatic 87, 1735162214, [5]), (.lcmp, 0, []), (.ifCond .eq 12, 0, [261]), (.lload 4, 0, [4]), (.getstatic 64, 1819239265, [4]), (.lcmp, 0, []), (.ifCond .ne 13, 0, [271]), (.nop, 0, [261])]
def s196_261 : List E := [(.aload_n 0, 0, [0]), (.getfield 18, 1, [13, 0, 29, 1]), (.getfield 169, 2, [14, 2, 81, 1]), (.iload_n 1, 0, [1]), (.iconst 3, 3, []), (.iastore, 0, []), (.nop, 0, [271])]
def s196_271 : List E := [(.aload_n 0, 0, [0]), (.getfield 27, 8, [13, 1, 3, 1]), (.aload_n 3, 0, [3]), (.iconst 0, 0, []), (.aload_n 3, 0, [3]), (.getfield 158, 0, [1, 1, 0]), (.invokevirtual 179, 0, [115, 1, 3, 164, 0, 100, 0, 0, 7]), (.lload 4, 0, [4]), (.getstatic 186, 1751474532, [0]), (.lcmp, 0, []), (.ifCond .ne 41, 0, [331]), (.aload_n 3, 0, [3]), (.getfield 158, 0, [1, 1, 0]), (.bipush 18, 18, []), (.if_icmp .lt 32, 0, [331]), (.aload_n 0, 0, [0]), (.getfield 27, 8, [13, 1, 3, 1]), (.getfield 154, 0, [1, 2, 3]), (.ifCond .ne 22, 0, [331]), (.aload_n 0, 0, [0]), (.getfield 27, 8, [13, 1, 3, 1]), (.getfield 189, 1, [1, 0, 83, 1]), (.iload 6, 0, [6]), (.bipush 16, 16, []), (.iadd, 0, []), (.dup2, 0, []), (.baload, 0, [41]), (.bipush 8, 8, []), (.ior, 0, []), (.i2b, 0, []), (.bastore, 0, [41]), (.nop, 0, [331])]
def s196_331 : List E := [(.aload_n 0, 0, [0]), (.getfield 18, 1, [13, 0, 29, 1]), (.getfield 193, 4, [14, 4, 81, 1]), (.iload_n 1, 0, [1]), (.aload_n 0, 0, [0]), (.getfield 27, 8, [13, 1, 3, 1]), (.getfield 158, 0, [1, 1, 0]), (.iload 6, 0, [6]), (.isub, 0, []), (.iastore, 0, []), (.return_, 0, [])]
def cd196 : List (Nat × List E) := [(0, s196_0), (60, s196_60), (87, s196_87), (91, s196_91), (142, s196_142), (143, s196_143), (166, s196_166), (167, s196_167), (205, s196_205), (229, s196_229), (243, s196_243), (261, s196_261), (271, s196_271), (331, s196_331)]
theorem l196_0 : lkc cd196 0 = s196_0 := rfl
theorem l196_60 : lkc cd196 60 = s196_60 := rfl
theorem l196_87 : lkc cd196 87 = s196_87 := rfl
theorem l196_91 : lkc cd196 91 = s196_91 := rfl
theorem l196_142 : lkc cd196 142 = s196_142 := rfl
theorem l196_143 : lkc cd196 143 = s196_143 := rfl
theorem l196_166 : lkc cd196 166 = s196_166 := rfl
theorem l196_167 : lkc cd196 167 = s196_167 := rfl
theorem l196_205 : lkc cd196 205 = s196_205 := rfl
theorem l196_229 : lkc cd196 229 = s196_229 := rfl
theorem l196_243 : lkc cd196 243 = s196_243 := rfl
theorem l196_261 : lkc cd196 261 = s196_261 := rfl
theorem l196_271 : lkc cd196 271 = s196_271 := rfl
theorem l196_331 : lkc cd196 331 = s196_331 := rfl
theorem k196 : chkM 196 13 true cd196 = true := by decide +kernel
/- Packer.isTurnable(I)Z -/
def s197_0 : List E := [(.aload_n 0, 0, [0]), (.getfield 3, -401, [13, 5, 1, 1]), (.getfield 90, 348, [0, 10, 21, 1]), (.aload_n 0, 0, [0]), (.getfield 3, -401, [13, 5, 1, 1]), (.getfield 47, 7, [0, 6, 5, 1]), (.getfield 51, 2, [2, 1, 93, 1]), (.aload_n 0, 0, [0]), (.getfield 18, 1, [13, 0, 29, 1]), (.getfield 117, 6, [14, 6, 81, 1]), (.iload_n 1, 0, [1]), (.iaload, 0, []), (.aaload, 0, [46, 6]), (.iconst 1, 1, []), (.invokevirtual 120, 0, [145, 10, 21, 8, 0, 0, 3, 9]), (.ifCond .eq 5, 0, [36]), (.iconst 0, 0, []), (.ireturn, 0, [1])]
def s197_36 : List E := [(.aload_n 0, 0, [0]), (.getfield 34, 12, [13, 3, 3, 1]), (.invokevirtual 124, 0, [112, 1, 3, 205, 0, 100]), (.aload_n 0, 0, [0]), (.getfield 3, -401, [13, 5, 1, 1]), (.getfield 127, 365, [0, 11, 25, 1]), (.aload_n 0, 0, [0]), (.getfield 3, -401, [13, 5, 1, 1]), (.getfield 90, 348, [0, 10, 21, 1]), (.aload_n 0, 0, [0]), (.getfield 34, 12, [13, 3, 3, 1]), (.invokevirtual 131, 0, [179, 12, 25, 26, 0, 100, 7, 16]), (.aload_n 0, 0, [0]), (.getfield 37, 14, [13, 4, 3, 1]), (.invokevirtual 124, 0, [112, 1, 3, 205, 0, 100]), (.iconst 0, 0, []), (.istore_n 2, 0, [2]), (.nop, 0, [73])]
def s197_73 : List E := [(.iload_n 2, 0, [2]), (.aload_n 0, 0, [0]), (.getfield 3, -401, [13, 5, 1, 1]), (.getfield 90, 348, [0, 10, 21, 1]), (.getfield 94, 0, [10, 0, 0]), (.if_icmp .ge 54, 0, [138]), (.aload_n 0, 0, [0]), (.getfield 3, -401, [13, 5, 1, 1]), (.getfield 90, 348, [0, 10, 21, 1]), (.iload_n 2, 0, [2]), (.invokevirtual 137, 0, [150, 10, 21, 53, 0, 3, 0]), (.pop, 0, []), (.aload_n 0, 0, [0]), (.getfield 3, -401, [13, 5, 1, 1]), (.getfield 90, 348, [0, 10, 21, 1]), (.getfield 141, 1, [10, 10, 23, 1]), (.getfield 145, 0, [11, 0, 0]), (.ifCond .eq 20, 0, [132]), (.aload_n 0, 0, [0]), (.getfield 3, -401, [13, 5, 1, 1]), (.getfield 90, 348, [0, 10, 21, 1]), (.getfield 141, 1, [10, 10, 23, 1]), (.aload_n 0, 0, [0]), (.getfield 37, 14, [13, 4, 3, 1]), (.invokevirtual 150, 0, [171, 11, 23, 97, 0, 100, 7]), (.nop, 0, [132])]
def s197_132 : List E := [(.iinc 2 1, 1, [2]), (.goto (-62), 0, [73])]
def s197_138 : List E := [(.aload_n 0, 0, [0]), (.getfield 34, 12, [13, 3, 3, 1]), (.getfield 154, 0, [1, 2, 3]), (.ifCond .ne 43, 0, [188]), (.aload_n 0, 0, [0]), (.getfield 34, 12, [13, 3, 3, 1]), (.getfield 158, 0, [1, 1, 0]), (.sipush 12000, 12000, []), (.if_icmp .gt 30, 0, [188]), (.aload_n 0, 0, [0]), (.getfield 37, 14, [13, 4, 3, 1]), (.getfield 154, 0, [1, 2, 3]), (.ifCond .ne 20, 0, [188]), (.aload_n 0, 0, [0]), (.getfield 37, 14, [13, 4, 3, 1]), (.getfield 158, 0, [1, 1, 0]), (.sipush 12000, 12000, []), (.if_icmp .gt 7, 0, [188]), (.iconst 1, 1, []), (.goto 4, 0, [189])]
def s197_188 : List E := [(.iconst 0, 0, []), (.nop, 0, [189])]
def s197_189 : List E := [(.ireturn, 0, [1])]
def cd197 : List (Nat × List E) := [(0, s197_0), (36, s197_36), (73, s197_73), (132, s197_132), (138, s197_138), (188, s197_188), (189, s197_189)]
theorem l197_0 : lkc cd197 0 = s197_0 := rfl
theorem l197_36 : lkc cd197 36 = s197_36 := rfl
theorem l197_73 : lkc cd197 73 = s197_73 := rfl
theorem l197_132 : lkc cd197 132 = s197_132 := rfl
theorem l197_138 : lkc cd197 138 = s197_138 := rfl
theorem l197_188 : lkc cd197 188 = s197_188 := rfl
theorem l197_189 : lkc cd197 189 = s197_189 := rfl
theorem k197 : chkM 197 13 true cd197 = true := by decide +kernel
/- Packer.hem()I -/
def s198_0 : List E := [(.iconst 1, 1, []), (.istore_n 1, 0, [1]), (.iconst 1, 1, []), (.istore_n 2, 0, [2]), (.iconst 0, 0, []), (.istore_n 3, 0, [3]), (.nop, 0, [6])]
def s198_6 : List E := [(.iload_n 3, 0, [3]), (.aload_n 0, 0, [0]), (.getfield 3, -401, [13, 5, 1, 1]), (.getfield 90, 348, [0, 10, 21, 1]), (.getfield 94, 0, [10, 0, 0]), (.if_icmp .ge 68, 0, [85]), (.aload_n 0, 0, [0]), (.getfield 3, -401, [13, 5, 1, 1]), (.getfield 90, 348, [0, 10, 21, 1]), (.iload_n 3, 0, [3]), (.invokevirtual 99, 0, [152, 10, 21, 117, 0, 0, 0]), (.aload_n 0, 0, [0]), (.getfield 3, -401, [13, 5, 1, 1]), (.getfield 90, 348, [0, 10, 21, 1]), (.iload_n 3, 0, [3]), (.invokevirtual 103, 0, [154, 10, 21, 8, 0, 0, 0]), (.if_icmp .ne 7, 0, [49]), (.iconst 1, 1, []), (.goto 4, 0, [50])]
def s198_49 : List E := [(.iconst 0, 0, []), (.nop, 0, [50])]
def s198_50 : List E := [(.istore 4, 0, [4]), (.iload_n 3, 0, [3]), (.aload_n 0, 0, [0]), (.getfield 3, -401, [13, 5, 1, 1]), (.getfield 90, 348, [0, 10, 21, 1]), (.getfield 106, 0, [10, 1, 0]), (.if_icmp .ge 11, 0, [74]), (.iload_n 1, 0, [1]), (.iload 4, 0, [4]), (.iand, 0, []), (.istore_n 1, 0, [1]), (.goto 8, 0, [79])]
def s198_74 : List E := [(.iload_n 2, 0, [2]), (.iload 4, 0, [4]), (.iand, 0, []), (.istore_n 2, 0, [2]), (.nop, 0, [79])]
def s198_79 : List E := [(.iinc 3 1, 1, [3]), (.goto (-76), 0, [6])]
def s198_85 : List E := [(.iload_n 1, 0, [1]), (.ifCond .eq 7, 0, [93]), (.iconst 1, 1, []), (.goto 4, 0, [94])]
def s198_93 : List E := [(.iconst 0, 0, []), (.nop, 0, [94])]
def s198_94 : List E := [(.iload_n 2, 0, [2]), (.ifCond .eq 30, 0, [125]), (.aload_n 0, 0, [0]), (.getfield 3, -401, [13, 5, 1, 1]), (.getfield 90, 348, [0, 10, 21, 1]), (.getfield 106, 0, [10, 1, 0]), (.aload_n 0, 0, [0]), (.getfield 3, -401, [13, 5, 1, 1]), (.getfield 90, 348, [0, 10, 21, 1]), (.getfield 94, 0, [10, 0, 0]), (.if_icmp .ge 7, 0, [125]), (.iconst 2, 2, []), (.goto 4, 0, [126])]
def s198_125 : List E := [(.iconst 0, 0, []), (.nop, 0, [126])]
def s198_126 : List E := [(.ior, 0, []), (.ireturn, 0, [])]
def cd198 : List (Nat × List E) := [(0, s198_0), (6, s198_6), (49, s198_49), (50, s198_50), (74, s198_74), (79, s198_79), (85, s198_85), (93, s198_93), (94, s198_94), (125, s198_125), (126, s198_126)]
theorem l198_0 : lkc cd198 0 = s198_0 := rfl
theorem l198_6 : lkc cd198 6 = s198_6 := rfl
theorem l198_49 : lkc cd198 49 = s198_49 := rfl
theorem l198_50 : lkc cd198 50 = s198_50 := rfl
theorem l198_74 : lkc cd198 74 = s198_74 := rfl
theorem l198_79 : lkc cd198 79 = s198_79 := rfl
theorem l198_85 : lkc cd198 85 = s198_85 := rfl
theorem l198_93 : lkc cd198 93 = s198_93 := rfl
theorem l198_94 : lkc cd198 94 = s198_94 := rfl
theorem l198_125 : lkc cd198 125 = s198_125 := rfl
theorem l198_126 : lkc cd198 126 = s198_126 := rfl
theorem k198 : chkM 198 13 true cd198 = true := by decide +kernel
/- Packer.putHmtx(I)V -/
def s199_0 : List E := [(.aload_n 0, 0, [0]), (.getfield 27, 8, [13, 1, 3, 1]), (.iload_n 1, 0, [1]), (.invokevirtual 109, 0, [113, 1, 3, 71, 0, 100, 0]), (.iconst 0, 0, []), (.istore_n 2, 0, [2]), (.nop, 0, [10])]
def s199_10 : List E := [(.iload_n 2, 0, [2]), (.aload_n 0, 0, [0]), (.getfield 3, -401, [13, 5, 1, 1]), (.getfield 90, 348, [0, 10, 21, 1]), (.getfield 106, 0, [10, 1, 0]), (.if_icmp .ge 27, 0, [48]), (.aload_n 0, 0, [0]), (.getfield 27, 8, [13, 1, 3, 1]), (.aload_n 0, 0, [0]), (.getfield 3, -401, [13, 5, 1, 1]), (.getfield 90, 348, [0, 10, 21, 1]), (.iload_n 2, 0, [2]), (.invokevirtual 111, 0, [151, 10, 21, 29, 0, 0, 0]), (.invokevirtual 114, 0, [121, 1, 3, 50, 0, 100, 0]), (.iinc 2 1, 1, [2]), (.goto (-35), 0, [10])]
def s199_48 : List E := [(.iconst 0, 0, []), (.istore_n 2, 0, [2]), (.nop, 0, [50])]
def s199_50 : List E := [(.iload_n 2, 0, [2]), (.aload_n 0, 0, [0]), (.getfield 3, -401, [13, 5, 1, 1]), (.getfield 90, 348, [0, 10, 21, 1]), (.getfield 94, 0, [10, 0, 0]), (.if_icmp .ge 51, 0, [112]), (.iload_n 1, 0, [1]), (.iload_n 2, 0, [2]), (.aload_n 0, 0, [0]), (.getfield 3, -401, [13, 5, 1, 1]), (.getfield 90, 348, [0, 10, 21, 1]), (.getfield 106, 0, [10, 1, 0]), (.if_icmp .ge 7, 0, [83]), (.iconst 1, 1, []), (.goto 4, 0, [84])]
def s199_83 : List E := [(.iconst 2, 2, []), (.nop, 0, [84])]
def s199_84 : List E := [(.iand, 0, []), (.ifCond .ne 21, 0, [106]), (.aload_n 0, 0, [0]), (.getfield 27, 8, [13, 1, 3, 1]), (.aload_n 0, 0, [0]), (.getfield 3, -401, [13, 5, 1, 1]), (.getfield 90, 348, [0, 10, 21, 1]), (.iload_n 2, 0, [2]), (.invokevirtual 99, 0, [152, 10, 21, 8, 0, 0, 0]), (.invokevirtual 114, 0, [121, 1, 3, 50, 0, 100, 0]), (.nop, 0, [106])]
def s199_106 : List E := [(.iinc 2 1, 1, [2]), (.goto (-59), 0, [50])]
def s199_112 : List E := [(.return_, 0, [])]
def cd199 : List (Nat × List E) := [(0, s199_0), (10, s199_10), (48, s199_48), (50, s199_50), (83, s199_83), (84, s199_84), (106, s199_106), (112, s199_112)]
theorem l199_0 : lkc cd199 0 = s199_0 := rfl
theorem l199_10 : lkc cd199 10 = s199_10 := rfl
theorem l199_48 : lkc cd199 48 = s199_48 := rfl
theorem l199_50 : lkc cd199 50 = s199_50 := rfl
theorem l199_83 : lkc cd199 83 = s199_83 := rfl
theorem l199_84 : lkc cd199 84 = s199_84 := rfl
theorem l199_106 : lkc cd199 106 = s199_106 := rfl
theorem l199_112 : lkc cd199 112 = s199_112 := rfl
theorem k199 : chkM 199 13 true cd199 = true := by decide +kernel
/- Packer.putDirectory(LFontHouse$Bytes;)V -/
def s200_0 : List E := [(.iconst 0, 0, []), (.istore_n 2, 0, [2]), (.nop, 0, [2])]
def s200_2 : List E := [(.iload_n 2, 0, [2]), (.aload_n 0, 0, [0]), (.getfield 18, 1, [13, 0, 29, 1]), (.getfield 40, 0, [14, 0, 0]), (.if_icmp .ge 97, 0, [107]), (.aload_n 0, 0, [0]), (.getfield 18, 1, [13, 0, 29, 1]), (.getfield 162, 1, [14, 1, 87, 1]), (.iload_n 2, 0, [2]), (.laload, 0, []), (.invokestatic 195, 0, [104, 8, 0, 0, 5]), (.istore_n 3, 0, [3]), (.aload_n 1, 0, [1]), (.aload_n 0, 0, [0]), (.getfield 18, 1, [13, 0, 29, 1]), (.getfield 169, 2, [14, 2, 81, 1]), (.iload_n 2, 0, [2]), (.iaload, 0, []), (.bipush 6, 6, []), (.ishl, 0, []), (.iload_n 3, 0, [3]), (.ior, 0, []), (.invokevirtual 109, 0, [113, 1, 3, 156, 0, 100, 0]), (.iload_n 3, 0, [3]), (.bipush 63, 63, []), (.if_icmp .ne 17, 0, [64]), (.aload_n 1, 0, [1]), (.aload_n 0, 0, [0]), (.getfield 18, 1, [13, 0, 29, 1]), (.getfield 162, 1, [14, 1, 87, 1]), (.iload_n 2, 0, [2]), (.laload, 0, []), (.l2i, 0, []), (.invokevirtual 199, 0, [120, 1, 3, 114, 0, 100, 0]), (.nop, 0, [64])]
def s200_64 : List E := [(.aload_n 1, 0, [1]), (.aload_n 0, 0, [0]), (.getfield 18, 1, [13, 0, 29, 1]), (.getfield 163, 3, [14, 3, 81, 1]), (.iload_n 2, 0, [2]), (.iaload, 0, []), (.invokevirtual 202, 0, [128, 1, 3, 132, 0, 100, 0]), (.aload_n 0, 0, [0]), (.getfield 18, 1, [13, 0, 29, 1]), (.iload_n 2, 0, [2]), (.invokevirtual 205, 0, [205, 14, 29, 156, 0, 3, 0]), (.ifCond .eq 16, 0, [101]), (.aload_n 1, 0, [1]), (.aload_n 0, 0, [0]), (.getfield 18, 1, [13, 0, 29, 1]), (.getfield 193, 4, [14, 4, 81, 1]), (.iload_n 2, 0, [2]), (.iaload, 0, []), (.invokevirtual 202, 0, [128, 1, 3, 132, 0, 100, 0]), (.nop, 0, [101])]
def s200_101 : List E := [(.iinc 2 1, 1, [2]), (.goto (-102), 0, [2])]
def s200_107 : List E := [(.return_, 0, [])]
def cd200 : List (Nat × List E) := [(0, s200_0), (2, s200_2), (64, s200_64), (101, s200_101), (107, s200_107)]
theorem l200_0 : lkc cd200 0 = s200_0 := rfl
theorem l200_2 : lkc cd200 2 = s200_2 := rfl
theorem l200_64 : lkc cd200 64 = s200_64 := rfl
theorem l200_101 : lkc cd200 101 = s200_101 := rfl
theorem l200_107 : lkc cd200 107 = s200_107 := rfl
theorem k200 : chkM 200 13 true cd200 = true := by decide +kernel
/- Packer.putFonts(LFontHouse$Bytes;I)V -/
def s201_0 : List E := [(.aload_n 1, 0, [1]), (.ldc 208, 65536, []), (.invokevirtual 199, 0, [120, 1, 3, 8, 0, 100, 0]), (.aload_n 1, 0, [1]), (.aload_n 0, 0, [0]), (.getfield 18, 1, [13, 0, 29, 1]), (.getfield 44, 0, [14, 7, 0]), (.invokevirtual 209, 0, [127, 1, 3, 8, 0, 100, 0]), (.iconst 0, 0, []), (.istore_n 3, 0, [3]), (.nop, 0, [19])]
def s201_19 : List E := [(.iload_n 3, 0, [3]), (.iconst 4, 4, []), (.if_icmp .ge 151, 0, [172]), (.iload_n 2, 0, [2]), (.iload_n 3, 0, [3]), (.ishr, 0, []), (.iconst 1, 1, []), (.iand, 0, []), (.ifCond .ne 6, 0, [35]), (.goto 134, 0, [166])]
def s201_35 : List E := [(.aload_n 0, 0, [0]), (.getfield 3, -401, [13, 5, 1, 1]), (.getfield 47, 7, [0, 6, 5, 1]), (.getfield 51, 2, [2, 1, 93, 1]), (.iload_n 3, 0, [3]), (.aaload, 0, [46, 6]), (.astore 4, 0, [4]), (.aload_n 1, 0, [1]), (.aload 4, 0, [4]), (.invokevirtual 212, 0, [488, 3, 7, 28, 0, 0]), (.invokevirtual 209, 0, [127, 1, 3, 8, 0, 100, 0]), (.aload_n 1, 0, [1]), (.aload 4, 0, [4]), (.getfield 215, 0, [3, 1, 0]), (.invokevirtual 199, 0, [120, 1, 3, 8, 0, 100, 0]), (.iconst 0, 0, []), (.istore 5, 0, [5]), (.nop, 0, [70])]
def s201_70 : List E := [(.iload 5, 0, [5]), (.aload 4, 0, [4]), (.getfield 57, 0, [3, 2, 0]), (.if_icmp .ge 89, 0, [166]), (.aload 4, 0, [4]), (.getfield 60, 1, [3, 3, 87, 1]), (.iload 5, 0, [5]), (.laload, 0, []), (.getstatic 64, 1819239265, [4]), (.lcmp, 0, []), (.ifCond .ne 14, 0, [106]), (.aload 4, 0, [4]), (.getstatic 87, 1735162214, [5]), (.invokevirtual 68, 0, [487, 3, 7, 25, 0, 7, 5]), (.goto 11, 0, [114])]
def s201_106 : List E := [(.aload 4, 0, [4]), (.getstatic 64, 1819239265, [4]), (.invokevirtual 68, 0, [487, 3, 7, 25, 0, 7, 5]), (.nop, 0, [114])]
def s201_114 : List E := [(.astore 6, 0, [6]), (.aload 4, 0, [4]), (.getfield 60, 1, [3, 3, 87, 1]), (.iload 5, 0, [5]), (.laload, 0, []), (.getstatic 72, 1146308935, [6]), (.lcmp, 0, []), (.ifCond .eq 32, 0, [160]), (.aload_n 1, 0, [1]), (.aload_n 0, 0, [0]), (.getfield 18, 1, [13, 0, 29, 1]), (.aload 4, 0, [4]), (.getfield 60, 1, [3, 3, 87, 1]), (.iload 5, 0, [5]), (.laload, 0, []), (.aload 4, 0, [4]), (.getfield 75, 2, [3, 4, 91, 1]), (.iload 5, 0, [5]), (.aaload, 0, [45, 2]), (.aload 6, 0, [6]), (.invokevirtual 79, 0, [203, 14, 29, 46, 0, 0, 7, 7, 5]), (.invokevirtual 209, 0, [127, 1, 3, 8, 0, 100, 0]), (.nop, 0, [160])]
def s201_160 : List E := [(.iinc 5 1, 1, [5]), (.goto (-93), 0, [70])]
def s201_166 : List E := [(.iinc 3 1, 1, [3]), (.goto (-150), 0, [19])]
def s201_172 : List E := [(.return_, 0, [])]
def cd201 : List (Nat × List E) := [(0, s201_0), (19, s201_19), (35, s201_35), (70, s201_70), (106, s201_106), (114, s201_114), (160, s201_160), (166, s201_166), (172, s201_172)]
theorem l201_0 : lkc cd201 0 = s201_0 := rfl
theorem l201_19 : lkc cd201 19 = s201_19 := rfl
theorem l201_35 : lkc cd201 35 = s201_35 := rfl
theorem l201_70 : lkc cd201 70 = s201_70 := rfl
theorem l201_106 : lkc cd201 106 = s201_106 := rfl
theorem l201_114 : lkc cd201 114 = s201_114 := rfl
theorem l201_160 : lkc cd201 160 = s201_160 := rfl
theorem l201_166 : lkc cd201 166 = s201_166 := rfl
theorem l201_172 : lkc cd201 172 = s201_172 := rfl
theorem k201 : chkM 201 13 true cd201 = true := by decide +kernel
/- Entries.<init>()V -/
def s202_0 : List E := [(.aload_n 0, 0, [0]), (.invokespecial 3, 0, [8]), (.aload_n 0, 0, [0]), (.bipush 40, 40, []), (.newarray .long, 0, [43, 87]), (.putfield 9, 0, [14, 1, 49]), (.aload_n 0, 0, [0]), (.bipush 40, 40, []), (.newarray .int, 0, [40, 81]), (.putfield 15, 0, [14, 2, 46]), (.aload_n 0, 0, [0]), (.bipush 40, 40, []), (.newarray .int, 0, [40, 81]), (.putfield 19, 0, [14, 3, 46]), (.aload_n 0, 0, [0]), (.bipush 40, 40, []), (.newarray .int, 0, [40, 81]), (.putfield 22, 0, [14, 4, 46]), (.aload_n 0, 0, [0]), (.bipush 40, 40, []), (.anewarray 25, 0, [45, 91]), (.putfield 27, 0, [14, 5, 51]), (.aload_n 0, 0, [0]), (.bipush 40, 40, []), (.newarray .int, 0, [40, 81]), (.putfield 31, 0, [14, 6, 46]), (.return_, 0, [])]
def cd202 : List (Nat × List E) := [(0, s202_0)]
theorem l202_0 : lkc cd202 0 = s202_0 := rfl
theorem k202 : chkM 202 14 false cd202 = true := by decide +kernel
/- Entries.find(JLFontHouse$Bytes;LFontHouse$Bytes;)I -/
def s203_0 : List E := [(.iconst 0, 0, []), (.istore 5, 0, [5]), (.nop, 0, [3])]
def s203_3 : List E := [(.iload 5, 0, [5]), (.aload_n 0, 0, [0]), (.getfield 34, 0, [14, 0, 0]), (.if_icmp .ge 85, 0, [94]), (.aload_n 0, 0, [0]), (.getfield 9, 1, [14, 1, 87, 1]), (.iload 5, 0, [5]), (.laload, 0, []), (.lload_n 1, 0, [1]), (.lcmp, 0, []), (.ifCond .ne 67, 0, [88]), (.aload_n 0, 0, [0]), (.getfield 27, 5, [14, 5, 91, 1]), (.iload 5, 0, [5]), (.aaload, 0, [45, 2]), (.aload_n 3, 0, [3]), (.if_acmp .eq 6, 0, [38]), (.goto 53, 0, [88])]
def s203_38 : List E := [(.lload_n 1, 0, [1]), (.getstatic 60, 1735162214, [5]), (.lcmp, 0, []), (.ifCond .ne 17, 0, [60]), (.aload_n 0, 0, [0]), (.getfield 27, 5, [14, 5, 91, 1]), (.iload 5, 0, [5]), (.iconst 1, 1, []), (.iadd, 0, []), (.aaload, 0, [45, 2]), (.aload 4, 0, [4]), (.if_acmp .ne 31, 0, [88]), (.nop, 0, [60])]
def s203_60 : List E := [(.lload_n 1, 0, [1]), (.getstatic 63, 1819239265, [4]), (.lcmp, 0, []), (.ifCond .ne 20, 0, [85]), (.aload_n 0, 0, [0]), (.getfield 27, 5, [14, 5, 91, 1]), (.iload 5, 0, [5]), (.iconst 1, 1, []), (.isub, 0, []), (.aaload, 0, [45, 2]), (.aload 4, 0, [4]), (.if_acmp .eq 6, 0, [85]), (.goto 6, 0, [88])]
def s203_85 : List E := [(.iload 5, 0, [5]), (.ireturn, 0, [])]
def s203_88 : List E := [(.iinc 5 1, 1, [5]), (.goto (-88), 0, [3])]
def s203_94 : List E := [(.iconst (-1), -1, []), (.ireturn, 0, [])]
def cd203 : List (Nat × List E) := [(0, s203_0), (3, s203_3), (38, s203_38), (60, s203_60), (85, s203_85), (88, s203_88), (94, s203_94)]
theorem l203_0 : lkc cd203 0 = s203_0 := rfl
theorem l203_3 : lkc cd203 3 = s203_3 := rfl
theorem l203_38 : lkc cd203 38 = s203_38 := rfl
theorem l203_60 : lkc cd203 60 = s203_60 := rfl
theorem l203_85 : lkc cd203 85 = s203_85 := rfl
theorem l203_88 : lkc cd203 88 = s203_88 := rfl
theorem l203_94 : lkc cd203 94 = s203_94 := rfl
theorem k203 : chkM 203 14 true cd203 = true := by decide +kernel
/- Entries.add(JLFontHouse$Bytes;I)Z -/
def s204_0 : List E := [(.aload_n 0, 0, [0]), (.getfield 34, 0, [14, 0, 0]), (.bipush 40, 40, []), (.if_icmp .ne 5, 0, [11]), (.iconst 0, 0, []), (.ireturn, 0, [1])]
def s204_11 : List E := [(.aload_n 0, 0, [0]), (.getfield 9, 1, [14, 1, 87, 1]), (.aload_n 0, 0, [0]), (.getfield 34, 0, [14, 0, 0]), (.lload_n 1, 0, [1]), (.lastore, 0, []), (.aload_n 0, 0, [0]), (.getfield 15, 2, [14, 2, 81, 1]), (.aload_n 0, 0, [0]), (.getfield 34, 0, [14, 0, 0]), (.iconst 0, 0, []), (.iastore, 0, []), (.aload_n 0, 0, [0]), (.getfield 27, 5, [14, 5, 91, 1]), (.aload_n 0, 0, [0]), (.getfield 34, 0, [14, 0, 0]), (.aload_n 3, 0, [3]), (.aastore, 0, [45, 1]), (.aload_n 0, 0, [0]), (.getfield 31, 6, [14, 6, 81, 1]), (.aload_n 0, 0, [0]), (.getfield 34, 0, [14, 0, 0]), (.iload 4, 0, [4]), (.iastore, 0, []), (.aload_n 0, 0, [0]), (.dup, 0, []), (.getfield 34, 0, [14, 0, 0]), (.iconst 1, 1, []), (.iadd, 0, []), (.putfield 34, 0, [14, 0, 0]), (.iconst 1, 1, []), (.ireturn, 0, [1])]
def cd204 : List (Nat × List E) := [(0, s204_0), (11, s204_11)]
theorem l204_0 : lkc cd204 0 = s204_0 := rfl
theorem l204_11 : lkc cd204 11 = s204_11 := rfl
theorem k204 : chkM 204 14 true cd204 = true := by decide +kernel
/- Entries.isTurned(I)Z -/
def s205_0 : List E := [(.aload_n 0, 0, [0]), (.getfield 9, 1, [14, 1, 87, 1]), (.iload_n 1, 0, [1]), (.laload, 0, []), (.getstatic 57, 1752003704, [3]), (.lcmp, 0, []), (.ifCond .ne 21, 0, [31]), (.aload_n 0, 0, [0]), (.getfield 15, 2, [14, 2, 81, 1]), (.iload_n 1, 0, [1]), (.iaload, 0, []), (.iconst 1, 1, []), (.if_icmp .ne 7, 0, [27]), (.iconst 1, 1, []), (.goto 47, 0, [71])]
def s205_27 : List E := [(.iconst 0, 0, []), (.goto 43, 0, [71])]
def s205_31 : List E := [(.aload_n 0, 0, [0]), (.getfield 9, 1, [14, 1, 87, 1]), (.iload_n 1, 0, [1]), (.laload, 0, []), (.getstatic 60, 1735162214, [5]), (.lcmp, 0, []), (.ifCond .eq 16, 0, [57]), (.aload_n 0, 0, [0]), (.getfield 9, 1, [14, 1, 87, 1]), (.iload_n 1, 0, [1]), (.laload, 0, []), (.getstatic 63, 1819239265, [4]), (.lcmp, 0, []), (.ifCond .ne 16, 0, [70]), (.nop, 0, [57])]
def s205_57 : List E := [(.aload_n 0, 0, [0]), (.getfield 15, 2, [14, 2, 81, 1]), (.iload_n 1, 0, [1]), (.iaload, 0, []), (.ifCond .ne 7, 0, [70]), (.iconst 1, 1, []), (.goto 4, 0, [71])]
def s205_70 : List E := [(.iconst 0, 0, []), (.nop, 0, [71])]
def s205_71 : List E := [(.ireturn, 0, [1])]
def cd205 : List (Nat × List E) := [(0, s205_0), (27, s205_27), (31, s205_31), (57, s205_57), (70, s205_70), (71, s205_71)]
theorem l205_0 : lkc cd205 0 = s205_0 := rfl
theorem l205_27 : lkc cd205 27 = s205_27 := rfl
theorem l205_31 : lkc cd205 31 = s205_31 := rfl
theorem l205_57 : lkc cd205 57 = s205_57 := rfl
theorem l205_70 : lkc cd205 70 = s205_70 := rfl
theorem l205_71 : lkc cd205 71 = s205_71 := rfl
theorem k205 : chkM 205 14 true cd205 = true := by decide +kernel
/- Entries.become(LFontHouse$Entries;)V -/
def s206_0 : List E := [(.aload_n 0, 0, [0]), (.aload_n 1, 0, [1]), (.getfield 34, 0, [14, 0, 0]), (.putfield 34, 0, [14, 0, 0]), (.aload_n 1, 0, [1]), (.getfield 9, 1, [14, 1, 87, 1]), (.iconst 0, 0, []), (.aload_n 0, 0, [0]), (.getfield 9, 1, [14, 1, 87, 1]), (.iconst 0, 0, []), (.bipush 40, 40, []), (.invokestatic 38, 0, [43, 0]), (.aload_n 1, 0, [1]), (.getfield 15, 2, [14, 2, 81, 1]), (.iconst 0, 0, []), (.aload_n 0, 0, [0]), (.getfield 15, 2, [14, 2, 81, 1]), (.iconst 0, 0, []), (.bipush 40, 40, []), (.invokestatic 38, 0, [40, 0]), (.aload_n 1, 0, [1]), (.getfield 19, 3, [14, 3, 81, 1]), (.iconst 0, 0, []), (.aload_n 0, 0, [0]), (.getfield 19, 3, [14, 3, 81, 1]), (.iconst 0, 0, []), (.bipush 40, 40, []), (.invokestatic 38, 0, [40, 0]), (.aload_n 1, 0, [1]), (.getfield 22, 4, [14, 4, 81, 1]), (.iconst 0, 0, []), (.aload_n 0, 0, [0]), (.getfield 22, 4, [14, 4, 81, 1]), (.iconst 0, 0, []), (.bipush 40, 40, []), (.invokestatic 38, 0, [40, 0]), (.aload_n 0, 0, [0]), (.aload_n 1, 0, [1]), (.getfield 44, 0, [14, 7, 0]), (.putfield 44, 0, [14, 7, 0]), (.aload_n 0, 0, [0]), (.aload_n 1, 0, [1]), (.getfield 47, 0, [14, 8, 0]), (.putfield 47, 0, [14, 8, 0]), (.aload_n 0, 0, [0]), (.aload_n 1, 0, [1]), (.getfield 50, 0, [14, 9, 0]), (.putfield 50, 0, [14, 9, 0]), (.aload_n 0, 0, [0]), (.aload_n 1, 0, [1]), (.getfield 53, 0, [14, 10, 5]), (.putfield 53, 0, [14, 10, 5]), (.return_, 0, [])]
def cd206 : List (Nat × List E) := [(0, s206_0)]
theorem l206_0 : lkc cd206 0 = s206_0 := rfl
theorem k206 : chkM 206 14 true cd206 = true := by decide +kernel
/- Unpacker.<init>(LFontHouse;)V -/
def s207_0 : List E := [(.aload_n 0, 0, [0]), (.aload_n 1, 0, [1]), (.putfield 3, 0, [15, 10, 6]), (.aload_n 0, 0, [0]), (.invokespecial 9, 0, [29]), (.aload_n 0, 0, [0]), (.new 15, 0, [14, 29, 11]), (.dup, 0, []), (.invokespecial 17, 0, [202, 14, 29, 9, 0, 100]), (.putfield 18, 0, [15, 2, 20]), (.aload_n 0, 0, [0]), (.bipush 40, 40, []), (.newarray .int, 0, [40, 81]), (.putfield 22, 0, [15, 3, 46]), (.aload_n 0, 0, [0]), (.iconst 4, 4, []), (.newarray .int, 0, [40, 81]), (.putfield 26, 0, [15, 4, 46]), (.aload_n 0, 0, [0]), (.iconst 4, 4, []), (.newarray .int, 0, [40, 81]), (.putfield 29, 0, [15, 5, 46]), (.aload_n 0, 0, [0]), (.bipush 64, 64, []), (.newarray .int, 0, [40, 81]), (.putfield 32, 0, [15, 6, 46]), (.aload_n 0, 0, [0]), (.new 35, 0, [1, 3, 4]), (.dup, 0, []), (.sipush 16000, 16000, []), (.invokespecial 37, 0, [111, 1, 3, 8, 0, 100, 0]), (.putfield 40, 0, [15, 7, 7]), (.aload_n 0, 0, [0]), (.bipush 40, 40, []), (.newarray .int, 0, [40, 81]), (.putfield 44, 0, [15, 8, 46]), (.aload_n 0, 0, [0]), (.new 47, 0, [3, 7, 5]), (.dup, 0, []), (.invokespecial 49, 0, [481, 3, 7, 9, 0, 100]), (.putfield 50, 0, [15, 9, 9]), (.return_, 0, [])]
def cd207 : List (Nat × List E) := [(0, s207_0)]
theorem l207_0 : lkc cd207 0 = s207_0 := rfl
theorem k207 : chkM 207 15 false cd207 = true := by decide +kernel
/- Unpacker.read(LFontHouse$Bytes;)V -/
def s208_0 : List E := [(.aload_n 0, 0, [0]), (.aload_n 1, 0, [1]), (.putfield 54, 0, [15, 0, 7]), (.aload_n 0, 0, [0]), (.iconst 0, 0, []), (.putfield 61, 0, [15, 1, 0]), (.aload_n 0, 0, [0]), (.invokevirtual 277, 0, [209, 15, 31, 253, 0, 100]), (.aload_n 0, 0, [0]), (.getfield 18, 1, [15, 2, 29, 1]), (.getfield 107, 0, [14, 0, 0]), (.istore_n 2, 0, [2]), (.iconst 0, 0, []), (.istore_n 3, 0, [3]), (.nop, 0, [24])]
def s208_24 : List E := [(.iload_n 3, 0, [3]), (.iload_n 2, 0, [2]), (.if_icmp .ge 14, 0, [40]), (.aload_n 0, 0, [0]), (.iload_n 3, 0, [3]), (.invokevirtual 280, 0, [211, 15, 31, 182, 0, 100, 0]), (.iinc 3 1, 1, [3]), (.goto (-13), 0, [24])]
def s208_40 : List E := [(.aload_n 0, 0, [0]), (.getfield 18, 1, [15, 2, 29, 1]), (.getfield 124, 1, [14, 1, 87, 1]), (.iload_n 2, 0, [2]), (.iconst 1, 1, []), (.isub, 0, []), (.laload, 0, []), (.getstatic 137, 1735162214, [5]), (.lcmp, 0, []), (.ifCond .ne 17, 0, [72]), (.new 64, 0, [17, 35, 8]), (.dup, 0, []), (.bipush 49, 49, []), (.aload_n 0, 0, [0]), (.getfield 61, 0, [15, 1, 0]), (.invokespecial 66, 0, [470, 17, 35, 296, 0, 100, 0, 0]), (.athrow, 0, [])]
def s208_72 : List E := [(.aload_n 1, 0, [1]), (.iconst 4, 4, []), (.invokevirtual 76, 0, [117, 1, 3, 317, 0, 0, 0]), (.ldc 106, 1953784678, []), (.if_icmp .ne 10, 0, [89]), (.aload_n 0, 0, [0]), (.invokevirtual 283, 0, [216, 15, 31, 183, 0, 100]), (.goto 7, 0, [93])]
def s208_89 : List E := [(.aload_n 0, 0, [0]), (.invokevirtual 286, 0, [220, 15, 31, 273, 0, 100]), (.nop, 0, [93])]
def s208_93 : List E := [(.aload_n 0, 0, [0]), (.invokevirtual 289, 0, [221, 15, 31, 8, 0, 100]), (.aload_n 0, 0, [0]), (.invokevirtual 291, 0, [223, 15, 31, 109, 0, 100]), (.return_, 0, [])]
def cd208 : List (Nat × List E) := [(0, s208_0), (24, s208_24), (40, s208_40), (72, s208_72), (89, s208_89), (93, s208_93)]
theorem l208_0 : lkc cd208 0 = s208_0 := rfl
theorem l208_24 : lkc cd208 24 = s208_24 := rfl
theorem l208_40 : lkc cd208 40 = s208_40 := rfl
theorem l208_72 : lkc cd208 72 = s208_72 := rfl
theorem l208_89 : lkc cd208 89 = s208_89 := rfl
theorem l208_93 : lkc cd208 93 = s208_93 := rfl
theorem k208 : chkM 208 15 true cd208 = true := by decide +kernel
/- Unpacker.head()V -/
def s209_0 : List E := [(.aload_n 0, 0, [0]), (.bipush 48, 48, []), (.invokevirtual 69, 0, [210, 15, 31, 8, 0, 100, 0]), (.aload_n 0, 0, [0]), (.getfield 54, 0, [15, 0, 7]), (.iconst 0, 0, []), (.invokevirtual 76, 0, [117, 1, 3, 50, 0, 0, 0]), (.ldc 103, 2001684018, []), (.if_icmp .eq 14, 0, [30]), (.new 64, 0, [17, 35, 8]), (.dup, 0, []), (.bipush 42, 42, []), (.iconst 0, 0, []), (.invokespecial 66, 0, [470, 17, 35, 29, 0, 100, 0, 0]), (.athrow, 0, [])]
def s209_30 : List E := [(.aload_n 0, 0, [0]), (.getfield 54, 0, [15, 0, 7]), (.iconst 4, 4, []), (.invokevirtual 76, 0, [117, 1, 3, 50, 0, 0, 0]), (.istore_n 1, 0, [1]), (.iload_n 1, 0, [1]), (.ldc 104, 65536, []), (.if_icmp .eq 26, 0, [68]), (.iload_n 1, 0, [1]), (.ldc 105, 1330926671, []), (.if_icmp .eq 20, 0, [68]), (.iload_n 1, 0, [1]), (.ldc 106, 1953784678, []), (.if_icmp .eq 14, 0, [68]), (.new 64, 0, [17, 35, 8]), (.dup, 0, []), (.bipush 43, 43, []), (.iconst 4, 4, []), (.invokespecial 66, 0, [470, 17, 35, 29, 0, 100, 0, 0]), (.athrow, 0, [])]
def s209_68 : List E := [(.aload_n 0, 0, [0]), (.getfield 54, 0, [15, 0, 7]), (.bipush 8, 8, []), (.invokevirtual 76, 0, [117, 1, 3, 50, 0, 0, 0]), (.aload_n 0, 0, [0]), (.getfield 54, 0, [15, 0, 7]), (.getfield 57, 0, [1, 1, 0]), (.if_icmp .eq 15, 0, [99]), (.new 64, 0, [17, 35, 8]), (.dup, 0, []), (.bipush 44, 44, []), (.bipush 8, 8, []), (.invokespecial 66, 0, [470, 17, 35, 29, 0, 100, 0, 0]), (.athrow, 0, [])]
def s209_99 : List E := [(.aload_n 0, 0, [0]), (.getfield 18, 1, [15, 2, 29, 1]), (.aload_n 0, 0, [0]), (.getfield 54, 0, [15, 0, 7]), (.bipush 12, 12, []), (.invokevirtual 72, 0, [118, 1, 3, 71, 0, 0, 0]), (.putfield 107, 0, [14, 0, 0]), (.aload_n 0, 0, [0]), (.getfield 18, 1, [15, 2, 29, 1]), (.getfield 107, 0, [14, 0, 0]), (.i2l, 0, []), (.lconst 1, 1, []), (.ldc2_w 110, 40, []), (.invokestatic 112, 0, [38, 88, 0, 3, 5, 5, 5]), (.ifCond .ne 15, 0, [145]), (.new 64, 0, [17, 35, 8]), (.dup, 0, []), (.bipush 45, 45, []), (.bipush 12, 12, []), (.invokespecial 66, 0, [470, 17, 35, 29, 0, 100, 0, 0]), (.athrow, 0, [])]
def s209_145 : List E := [(.aload_n 0, 0, [0]), (.getfield 54, 0, [15, 0, 7]), (.bipush 14, 14, []), (.invokevirtual 72, 0, [118, 1, 3, 71, 0, 0, 0]), (.ifCond .eq 15, 0, [169]), (.new 64, 0, [17, 35, 8]), (.dup, 0, []), (.bipush 45, 45, []), (.bipush 14, 14, []), (.invokespecial 66, 0, [470, 17, 35, 29, 0, 100, 0, 0]), (.athrow, 0, [])]
def s209_169 : List E := [(.bipush 28, 28, []), (.istore_n 2, 0, [2]), (.nop, 0, [172])]
def s209_172 : List E := [(.iload_n 2, 0, [2]), (.bipush 48, 48, []), (.if_icmp .ge 31, 0, [206]), (.aload_n 0, 0, [0]), (.getfield 54, 0, [15, 0, 7]), (.iload_n 2, 0, [2]), (.invokevirtual 76, 0, [117, 1, 3, 50, 0, 0, 0]), (.ifCond .eq 14, 0, [200]), (.new 64, 0, [17, 35, 8]), (.dup, 0, []), (.bipush 46, 46, []), (.iload_n 2, 0, [2]), (.invokespecial 66, 0, [470, 17, 35, 29, 0, 100, 0, 0]), (.athrow, 0, [])]
def s209_200 : List E := [(.iinc 2 4, 4, [2]), (.goto (-31), 0, [172])]
def s209_206 : List E := [(.aload_n 0, 0, [0]), (.getfield 18, 1, [15, 2, 29, 1]), (.aload_n 0, 0, [0]), (.getfield 54, 0, [15, 0, 7]), (.bipush 16, 16, []), (.invokevirtual 116, 0, [122, 1, 3, 29, 0, 5, 0]), (.putfield 120, 0, [14, 10, 5]), (.aload_n 0, 0, [0]), (.bipush 48, 48, []), (.putfield 61, 0, [15, 1, 0]), (.return_, 0, [])]
def cd209 : List (Nat × List E) := [(0, s209_0), (30, s209_30), (68, s209_68), (99, s209_99), (145, s209_145), (169, s209_169), (172, s209_172), (200, s209_200), (206, s209_206)]
theorem l209_0 : lkc cd209 0 = s209_0 := rfl
theorem l209_30 : lkc cd209 30 = s209_30 := rfl
theorem l209_68 : lkc cd209 68 = s209_68 := rfl
theorem l209_99 : lkc cd209 99 = s209_99 := rfl
theorem l209_145 : lkc cd209 145 = s209_145 := rfl
theorem l209_169 : lkc cd209 169 = s209_169 := rfl
theorem l209_172 : lkc cd209 172 = s209_172 := rfl
theorem l209_200 : lkc cd209 200 = s209_200 := rfl
theorem l209_206 : lkc cd209 206 = s209_206 := rfl
theorem k209 : chkM 209 15 true cd209 = true := by decide +kernel
/- Unpacker.needs(I)V -/
def s210_0 : List E := [(.iload_n 1, 0, [1]), (.aload_n 0, 0, [0]), (.getfield 54, 0, [15, 0, 7]), (.getfield 57, 0, [1, 1, 0]), (.aload_n 0, 0, [0]), (.getfield 61, 0, [15, 1, 0]), (.isub, 0, []), (.if_icmp .le 20, 0, [33]), (.new 64, 0, [17, 35, 8]), (.dup, 0, []), (.bipush 41, 41, []), (.aload_n 0, 0, [0]), (.getfield 54, 0, [15, 0, 7]), (.getfield 57, 0, [1, 1, 0]), (.invokespecial 66, 0, [470, 17, 35, 8, 0, 100, 0, 0]), (.athrow, 0, [])]
def s210_33 : List E := [(.return_, 0, [])]
def cd210 : List (Nat × List E) := [(0, s210_0), (33, s210_33)]
theorem l210_0 : lkc cd210 0 = s210_0 := rfl
theorem l210_33 : lkc cd210 33 = s210_33 := rfl
theorem k210 : chkM 210 15 true cd210 = true := by decide +kernel
/- Unpacker.entry(I)V -/
def s211_0 : List E := [(.aload_n 0, 0, [0]), (.getfield 22, 8, [15, 3, 81, 1]), (.iload_n 1, 0, [1]), (.aload_n 0, 0, [0]), (.getfield 61, 0, [15, 1, 0]), (.iastore, 0, []), (.aload_n 0, 0, [0]), (.invokevirtual 82, 0, [212, 15, 31, 55, 0, 0]), (.istore_n 2, 0, [2]), (.aload_n 0, 0, [0]), (.getfield 18, 1, [15, 2, 29, 1]), (.getfield 124, 1, [14, 1, 87, 1]), (.iload_n 1, 0, [1]), (.iload_n 2, 0, [2]), (.bipush 63, 63, []), (.iand, 0, []), (.bipush 63, 63, []), (.if_icmp .ne 15, 0, [44]), (.aload_n 0, 0, [0]), (.invokevirtual 128, 0, [213, 15, 31, 55, 0, 0]), (.i2l, 0, []), (.ldc2_w 89, 4294967295, []), (.land, 0, []), (.goto 10, 0, [51])]
def s211_44 : List E := [(.iload_n 2, 0, [2]), (.bipush 63, 63, []), (.iand, 0, []), (.invokestatic 131, 0, [105, 33, 0, 5, 0]), (.nop, 0, [51])]
def s211_51 : List E := [(.lastore, 0, []), (.aload_n 0, 0, [0]), (.getfield 18, 1, [15, 2, 29, 1]), (.getfield 134, 2, [14, 2, 81, 1]), (.iload_n 1, 0, [1]), (.iload_n 2, 0, [2]), (.bipush 6, 6, []), (.ishr, 0, []), (.iastore, 0, []), (.aload_n 0, 0, [0]), (.getfield 18, 1, [15, 2, 29, 1]), (.getfield 124, 1, [14, 1, 87, 1]), (.iload_n 1, 0, [1]), (.laload, 0, []), (.getstatic 137, 1735162214, [5]), (.lcmp, 0, []), (.ifCond .ne 7, 0, [85]), (.iconst 1, 1, []), (.goto 4, 0, [86])]
def s211_85 : List E := [(.iconst 0, 0, []), (.nop, 0, [86])]
def s211_86 : List E := [(.istore_n 3, 0, [3]), (.aload_n 0, 0, [0]), (.getfield 18, 1, [15, 2, 29, 1]), (.getfield 124, 1, [14, 1, 87, 1]), (.iload_n 1, 0, [1]), (.laload, 0, []), (.getstatic 140, 1819239265, [4]), (.lcmp, 0, []), (.ifCond .ne 7, 0, [107]), (.iconst 1, 1, []), (.goto 4, 0, [108])]
def s211_107 : List E := [(.iconst 0, 0, []), (.nop, 0, [108])]
def s211_108 : List E := [(.istore 4, 0, [4]), (.aload_n 0, 0, [0]), (.getfield 18, 1, [15, 2, 29, 1]), (.getfield 134, 2, [14, 2, 81, 1]), (.iload_n 1, 0, [1]), (.iaload, 0, []), (.istore 5, 0, [5]), (.iload_n 3, 0, [3]), (.ifCond .ne 8, 0, [130]), (.iload 4, 0, [4]), (.ifCond .eq 17, 0, [144]), (.nop, 0, [130])]
def s211_130 : List E := [(.iload 5, 0, [5]), (.ifCond .eq 54, 0, [186]), (.iload 5, 0, [5]), (.iconst 3, 3, []), (.if_icmp .eq 48, 0, [186]), (.goto 29, 0, [170])]
def s211_144 : List E := [(.iload 5, 0, [5]), (.aload_n 0, 0, [0]), (.getfield 18, 1, [15, 2, 29, 1]), (.getfield 124, 1, [14, 1, 87, 1]), (.iload_n 1, 0, [1]), (.laload, 0, []), (.getstatic 143, 1752003704, [3]), (.lcmp, 0, []), (.ifCond .ne 7, 0, [166]), (.iconst 1, 1, []), (.goto 4, 0, [167])]
def s211_166 : List E := [(.iconst 0, 0, []), (.nop, 0, [167])]
def s211_167 : List E := [(.if_icmp .le 19, 0, [186]), (.nop, 0, [170])]
def s211_170 : List E := [(.new 64, 0, [17, 35, 8]), (.dup, 0, []), (.bipush 48, 48, []), (.aload_n 0, 0, [0]), (.getfield 22, 8, [15, 3, 81, 1]), (.iload_n 1, 0, [1]), (.iaload, 0, []), (.invokespecial 66, 0, [470, 17, 35, 96, 0, 100, 0, 0]), (.athrow, 0, [])]
def s211_186 : List E := [(.aload_n 0, 0, [0]), (.getfield 18, 1, [15, 2, 29, 1]), (.getfield 146, 3, [14, 3, 81, 1]), (.iload_n 1, 0, [1]), (.aload_n 0, 0, [0]), (.invokevirtual 149, 0, [214, 15, 31, 8, 0, 0]), (.iastore, 0, []), (.aload_n 0, 0, [0]), (.getfield 18, 1, [15, 2, 29, 1]), (.getfield 152, 4, [14, 4, 81, 1]), (.iload_n 1, 0, [1]), (.aload_n 0, 0, [0]), (.getfield 18, 1, [15, 2, 29, 1]), (.iload_n 1, 0, [1]), (.invokevirtual 155, 0, [205, 14, 29, 159, 0, 3, 0]), (.ifCond .eq 10, 0, [225]), (.aload_n 0, 0, [0]), (.invokevirtual 149, 0, [214, 15, 31, 8, 0, 0]), (.goto 12, 0, [234])]
def s211_225 : List E := [(.aload_n 0, 0, [0]), (.getfield 18, 1, [15, 2, 29, 1]), (.getfield 146, 3, [14, 3, 81, 1]), (.iload_n 1, 0, [1]), (.iaload, 0, []), (.nop, 0, [234])]
def s211_234 : List E := [(.iastore, 0, []), (.aload_n 0, 0, [0]), (.getfield 18, 1, [15, 2, 29, 1]), (.getfield 146, 3, [14, 3, 81, 1]), (.iload_n 1, 0, [1]), (.iaload, 0, []), (.aload_n 0, 0, [0]), (.getfield 18, 1, [15, 2, 29, 1]), (.getfield 152, 4, [14, 4, 81, 1]), (.iload_n 1, 0, [1]), (.iaload, 0, []), (.invokestatic 159, 0, [1, 159, 0, 0, 0, 0]), (.sipush 12000, 12000, []), (.if_icmp .le 19, 0, [278]), (.new 64, 0, [17, 35, 8]), (.dup, 0, []), (.bipush 50, 50, []), (.aload_n 0, 0, [0]), (.getfield 22, 8, [15, 3, 81, 1]), (.iload_n 1, 0, [1]), (.iaload, 0, []), (.invokespecial 66, 0, [470, 17, 35, 96, 0, 100, 0, 0]), (.athrow, 0, [])]
def s211_278 : List E := [(.iload_n 1, 0, [1]), (.ifCond .le 25, 0, [304]), (.aload_n 0, 0, [0]), (.getfield 18, 1, [15, 2, 29, 1]), (.getfield 124, 1, [14, 1, 87, 1]), (.iload_n 1, 0, [1]), (.iconst 1, 1, []), (.isub, 0, []), (.laload, 0, []), (.getstatic 137, 1735162214, [5]), (.lcmp, 0, []), (.ifCond .ne 7, 0, [304]), (.iconst 1, 1, []), (.goto 4, 0, [305])]
def s211_304 : List E := [(.iconst 0, 0, []), (.nop, 0, [305])]
def s211_305 : List E := [(.istore 6, 0, [6]), (.iload 4, 0, [4]), (.iload 6, 0, [6]), (.if_icmp .ne 41, 0, [352]), (.iload 4, 0, [4]), (.ifCond .eq 52, 0, [368]), (.aload_n 0, 0, [0]), (.getfield 18, 1, [15, 2, 29, 1]), (.getfield 134, 2, [14, 2, 81, 1]), (.iload_n 1, 0, [1]), (.iconst 1, 1, []), (.isub, 0, []), (.iaload, 0, []), (.iload 5, 0, [5]), (.if_icmp .ne 20, 0, [352]), (.iload 5, 0, [5]), (.ifCond .ne 31, 0, [368]), (.aload_n 0, 0, [0]), (.getfield 18, 1, [15, 2, 29, 1]), (.getfield 152, 4, [14, 4, 81, 1]), (.iload_n 1, 0, [1]), (.iaload, 0, []), (.ifCond .le 19, 0, [368]), (.nop, 0, [352])]
def s211_352 : List E := [(.new 64, 0, [17, 35, 8]), (.dup, 0, []), (.bipush 49, 49, []), (.aload_n 0, 0, [0]), (.getfield 22, 8, [15, 3, 81, 1]), (.iload_n 1, 0, [1]), (.iaload, 0, []), (.invokespecial 66, 0, [470, 17, 35, 96, 0, 100, 0, 0]), (.athrow, 0, [])]
def s211_368 : List E := [(.aload_n 0, 0, [0]), (.getfield 18, 1, [15, 2, 29, 1]), (.getfield 163, 6, [14, 6, 81, 1]), (.iload_n 1, 0, [1]), (.iconst (-1), -1, []), (.iastore, 0, []), (.return_, 0, [])]
def cd211 : List (Nat × List E) := [(0, s211_0), (44, s211_44), (51, s211_51), (85, s211_85), (86, s211_86), (107, s211_107), (108, s211_108), (130, s211_130), (144, s211_144), (166, s211_166), (167, s211_167), (170, s211_170), (186, s211_186), (225, s211_225), (234, s211_234), (278, s211_278), (304, s211_304), (305, s211_305), (352, s211_352), (368, s211_368)]
theorem l211_0 : lkc cd211 0 = s211_0 := rfl
theorem l211_44 : lkc cd211 44 = s211_44 := rfl
theorem l211_51 : lkc cd211 51 = s211_51 := rfl
theorem l211_85 : lkc cd211 85 = s211_85 := rfl
theorem l211_86 : lkc cd211 86 = s211_86 := rfl
theorem l211_107 : lkc cd211 107 = s211_107 := rfl
theorem l211_108 : lkc cd211 108 = s211_108 := rfl
theorem l211_130 : lkc cd211 130 = s211_130 := rfl
theorem l211_144 : lkc cd211 144 = s211_144 := rfl
theorem l211_166 : lkc cd211 166 = s211_166 := rfl
theorem l211_167 : lkc cd211 167 = s211_167 := rfl
theorem l211_170 : lkc cd211 170 = s211_170 := rfl
theorem l211_186 : lkc cd211 186 = s211_186 := rfl
theorem l211_225 : lkc cd211 225 = s211_225 := rfl
theorem l211_234 : lkc cd211 234 = s211_234 := rfl
theorem l211_278 : lkc cd211 278 = s211_278 := rfl
theorem l211_304 : lkc cd211 304 = s211_304 := rfl
theorem l211_305 : lkc cd211 305 = s211_305 := rfl
theorem l211_352 : lkc cd211 352 = s211_352 := rfl
theorem l211_368 : lkc cd211 368 = s211_368 := rfl
theorem k211 : chkM 211 15 true cd211 = true := by decide +kernel
/- Unpacker.octet()I -/
def s212_0 : List E := [(.aload_n 0, 0, [0]), (.iconst 1, 1, []), (.invokevirtual 69, 0, [210, 15, 31, 8, 0, 100, 0]), (.aload_n 0, 0, [0]), (.getfield 54, 0, [15, 0, 7]), (.aload_n 0, 0, [0]), (.dup, 0, []), (.getfield 61, 0, [15, 1, 0]), (.dup_x1, 0, []), (.iconst 1, 1, []), (.iadd, 0, []), (.putfield 61, 0, [15, 1, 0]), (.invokevirtual 79, 0, [114, 1, 3, 92, 0, 0, 0]), (.ireturn, 0, [])]
def cd212 : List (Nat × List E) := [(0, s212_0)]
theorem l212_0 : lkc cd212 0 = s212_0 := rfl
theorem k212 : chkM 212 15 true cd212 = true := by decide +kernel
/- Unpacker.four()I -/
def s213_0 : List E := [(.aload_n 0, 0, [0]), (.iconst 4, 4, []), (.invokevirtual 69, 0, [210, 15, 31, 8, 0, 100, 0]), (.aload_n 0, 0, [0]), (.dup, 0, []), (.getfield 61, 0, [15, 1, 0]), (.iconst 4, 4, []), (.iadd, 0, []), (.putfield 61, 0, [15, 1, 0]), (.aload_n 0, 0, [0]), (.getfield 54, 0, [15, 0, 7]), (.aload_n 0, 0, [0]), (.getfield 61, 0, [15, 1, 0]), (.iconst 4, 4, []), (.isub, 0, []), (.invokevirtual 76, 0, [117, 1, 3, 50, 0, 0, 0]), (.ireturn, 0, [])]
def cd213 : List (Nat × List E) := [(0, s213_0)]
theorem l213_0 : lkc cd213 0 = s213_0 := rfl
theorem k213 : chkM 213 15 true cd213 = true := by decide +kernel
/- Unpacker.length()I -/
def s214_0 : List E := [(.aload_n 0, 0, [0]), (.invokevirtual 91, 0, [215, 15, 31, 8, 0, 5]), (.lstore_n 1, 0, [1]), (.lload_n 1, 0, [1]), (.ldc2_w 95, 12001, []), (.invokestatic 97, 0, [3, 135, 0, 5, 5, 5]), (.l2i, 0, []), (.ireturn, 0, [])]
def cd214 : List (Nat × List E) := [(0, s214_0)]
theorem l214_0 : lkc cd214 0 = s214_0 := rfl
theorem k214 : chkM 214 15 true cd214 = true := by decide +kernel
/- Unpacker.big()J -/
def s215_0 : List E := [(.aload_n 0, 0, [0]), (.getfield 61, 0, [15, 1, 0]), (.istore_n 1, 0, [1]), (.lconst 0, 0, []), (.lstore_n 2, 0, [2]), (.iconst 0, 0, []), (.istore 4, 0, [4]), (.nop, 0, [10])]
def s215_10 : List E := [(.iload 4, 0, [4]), (.iconst 5, 5, []), (.if_icmp .ge 80, 0, [93]), (.aload_n 0, 0, [0]), (.invokevirtual 82, 0, [212, 15, 31, 8, 0, 0]), (.istore 5, 0, [5]), (.iload 4, 0, [4]), (.ifCond .ne 22, 0, [46]), (.iload 5, 0, [5]), (.sipush 128, 128, []), (.if_icmp .ne 14, 0, [46]), (.new 64, 0, [17, 35, 8]), (.dup, 0, []), (.bipush 47, 47, []), (.iload_n 1, 0, [1]), (.invokespecial 66, 0, [470, 17, 35, 49, 0, 100, 0, 0]), (.athrow, 0, [])]
def s215_46 : List E := [(.lload_n 2, 0, [2]), (.bipush 7, 7, []), (.lshl, 0, []), (.iload 5, 0, [5]), (.bipush 127, 127, []), (.iand, 0, []), (.i2l, 0, []), (.lor, 0, []), (.lstore_n 2, 0, [2]), (.lload_n 2, 0, [2]), (.ldc2_w 89, 4294967295, []), (.lcmp, 0, []), (.ifCond .le 14, 0, [77]), (.new 64, 0, [17, 35, 8]), (.dup, 0, []), (.bipush 47, 47, []), (.iload_n 1, 0, [1]), (.invokespecial 66, 0, [470, 17, 35, 49, 0, 100, 0, 0]), (.athrow, 0, [])]
def s215_77 : List E := [(.iload 5, 0, [5]), (.sipush 128, 128, []), (.if_icmp .ge 5, 0, [87]), (.lload_n 2, 0, [2]), (.lreturn, 0, [])]
def s215_87 : List E := [(.iinc 4 1, 1, [4]), (.goto (-80), 0, [10])]
def s215_93 : List E := [(.new 64, 0, [17, 35, 8]), (.dup, 0, []), (.bipush 47, 47, []), (.iload_n 1, 0, [1]), (.invokespecial 66, 0, [470, 17, 35, 49, 0, 100, 0, 0]), (.athrow, 0, [])]
def cd215 : List (Nat × List E) := [(0, s215_0), (10, s215_10), (46, s215_46), (77, s215_77), (87, s215_87), (93, s215_93)]
theorem l215_0 : lkc cd215 0 = s215_0 := rfl
theorem l215_10 : lkc cd215 10 = s215_10 := rfl
theorem l215_46 : lkc cd215 46 = s215_46 := rfl
theorem l215_77 : lkc cd215 77 = s215_77 := rfl
theorem l215_87 : lkc cd215 87 = s215_87 := rfl
theorem l215_93 : lkc cd215 93 = s215_93 := rfl
theorem k215 : chkM 215 15 true cd215 = true := by decide +kernel
/- Unpacker.several()V -/
def s216_0 : List E := [(.aload_n 0, 0, [0]), (.getfield 61, 0, [15, 1, 0]), (.istore_n 1, 0, [1]), (.aload_n 0, 0, [0]), (.invokevirtual 128, 0, [213, 15, 31, 58, 0, 0]), (.ldc 104, 65536, []), (.if_icmp .eq 14, 0, [25]), (.new 64, 0, [17, 35, 8]), (.dup, 0, []), (.bipush 52, 52, []), (.iload_n 1, 0, [1]), (.invokespecial 66, 0, [470, 17, 35, 99, 0, 100, 0, 0]), (.athrow, 0, [])]
def s216_25 : List E := [(.aload_n 0, 0, [0]), (.getfield 61, 0, [15, 1, 0]), (.istore_n 1, 0, [1]), (.aload_n 0, 0, [0]), (.getfield 18, 1, [15, 2, 29, 1]), (.aload_n 0, 0, [0]), (.invokevirtual 172, 0, [217, 15, 31, 37, 0, 0]), (.putfield 166, 0, [14, 7, 0]), (.aload_n 0, 0, [0]), (.getfield 18, 1, [15, 2, 29, 1]), (.getfield 166, 0, [14, 7, 0]), (.i2l, 0, []), (.lconst 1, 1, []), (.ldc2_w 175, 4, []), (.invokestatic 112, 0, [38, 158, 0, 3, 5, 5, 5]), (.ifCond .ne 14, 0, [70]), (.new 64, 0, [17, 35, 8]), (.dup, 0, []), (.bipush 52, 52, []), (.iload_n 1, 0, [1]), (.invokespecial 66, 0, [470, 17, 35, 99, 0, 100, 0, 0]), (.athrow, 0, [])]
def s216_70 : List E := [(.iconst 0, 0, []), (.istore_n 2, 0, [2]), (.nop, 0, [72])]
def s216_72 : List E := [(.iload_n 2, 0, [2]), (.aload_n 0, 0, [0]), (.getfield 18, 1, [15, 2, 29, 1]), (.getfield 166, 0, [14, 7, 0]), (.if_icmp .ge 14, 0, [94]), (.aload_n 0, 0, [0]), (.iload_n 2, 0, [2]), (.invokevirtual 177, 0, [219, 15, 31, 8, 0, 100, 0]), (.iinc 2 1, 1, [2]), (.goto (-19), 0, [72])]
def s216_94 : List E := [(.return_, 0, [])]
def cd216 : List (Nat × List E) := [(0, s216_0), (25, s216_25), (70, s216_70), (72, s216_72), (94, s216_94)]
theorem l216_0 : lkc cd216 0 = s216_0 := rfl
theorem l216_25 : lkc cd216 25 = s216_25 := rfl
theorem l216_70 : lkc cd216 70 = s216_70 := rfl
theorem l216_72 : lkc cd216 72 = s216_72 := rfl
theorem l216_94 : lkc cd216 94 = s216_94 := rfl
theorem k216 : chkM 216 15 true cd216 = true := by decide +kernel
/- Unpacker.shorter()I -/
def s217_0 : List E := [(.aload_n 0, 0, [0]), (.invokevirtual 82, 0, [212, 15, 31, 8, 0, 0]), (.istore_n 1, 0, [1]), (.iload_n 1, 0, [1]), (.sipush 253, 253, []), (.if_icmp .ne 10, 0, [19]), (.aload_n 0, 0, [0]), (.invokevirtual 86, 0, [218, 15, 31, 8, 0, 0]), (.goto 40, 0, [56])]
def s217_19 : List E := [(.iload_n 1, 0, [1]), (.sipush 254, 254, []), (.if_icmp .ne 14, 0, [37]), (.aload_n 0, 0, [0]), (.invokevirtual 82, 0, [212, 15, 31, 8, 0, 0]), (.sipush 506, 506, []), (.iadd, 0, []), (.goto 22, 0, [56])]
def s217_37 : List E := [(.iload_n 1, 0, [1]), (.sipush 255, 255, []), (.if_icmp .ne 14, 0, [55]), (.aload_n 0, 0, [0]), (.invokevirtual 82, 0, [212, 15, 31, 8, 0, 0]), (.sipush 253, 253, []), (.iadd, 0, []), (.goto 4, 0, [56])]
def s217_55 : List E := [(.iload_n 1, 0, [1]), (.nop, 0, [56])]
def s217_56 : List E := [(.ireturn, 0, [])]
def cd217 : List (Nat × List E) := [(0, s217_0), (19, s217_19), (37, s217_37), (55, s217_55), (56, s217_56)]
theorem l217_0 : lkc cd217 0 = s217_0 := rfl
theorem l217_19 : lkc cd217 19 = s217_19 := rfl
theorem l217_37 : lkc cd217 37 = s217_37 := rfl
theorem l217_55 : lkc cd217 55 = s217_55 := rfl
theorem l217_56 : lkc cd217 56 = s217_56 := rfl
theorem k217 : chkM 217 15 true cd217 = true := by decide +kernel
/- Unpacker.two()I -/
def s218_0 : List E := [(.aload_n 0, 0, [0]), (.iconst 2, 2, []), (.invokevirtual 69, 0, [210, 15, 31, 8, 0, 100, 0]), (.aload_n 0, 0, [0]), (.dup, 0, []), (.getfield 61, 0, [15, 1, 0]), (.iconst 2, 2, []), (.iadd, 0, []), (.putfield 61, 0, [15, 1, 0]), (.aload_n 0, 0, [0]), (.getfield 54, 0, [15, 0, 7]), (.aload_n 0, 0, [0]), (.getfield 61, 0, [15, 1, 0]), (.iconst 2, 2, []), (.isub, 0, []), (.invokevirtual 72, 0, [118, 1, 3, 71, 0, 0, 0]), (.ireturn, 0, [])]
def cd218 : List (Nat × List E) := [(0, s218_0)]
theorem l218_0 : lkc cd218 0 = s218_0 := rfl
theorem k218 : chkM 218 15 true cd218 = true := by decide +kernel
/- Unpacker.font(I)V -/
def s219_0 : List E := [(.aload_n 0, 0, [0]), (.getfield 61, 0, [15, 1, 0]), (.istore_n 2, 0, [2]), (.aload_n 0, 0, [0]), (.getfield 29, 10, [15, 5, 81, 1]), (.iload_n 1, 0, [1]), (.aload_n 0, 0, [0]), (.invokevirtual 172, 0, [217, 15, 31, 8, 0, 0]), (.iastore, 0, []), (.aload_n 0, 0, [0]), (.getfield 29, 10, [15, 5, 81, 1]), (.iload_n 1, 0, [1]), (.iaload, 0, []), (.i2l, 0, []), (.lconst 1, 1, []), (.ldc2_w 179, 16, []), (.invokestatic 112, 0, [38, 129, 0, 3, 5, 5, 5]), (.ifCond .ne 14, 0, [43]), (.new 64, 0, [17, 35, 8]), (.dup, 0, []), (.bipush 52, 52, []), (.iload_n 2, 0, [2]), (.invokespecial 66, 0, [470, 17, 35, 70, 0, 100, 0, 0]), (.athrow, 0, [])]
def s219_43 : List E := [(.aload_n 0, 0, [0]), (.getfield 61, 0, [15, 1, 0]), (.istore_n 3, 0, [3]), (.aload_n 0, 0, [0]), (.getfield 26, 9, [15, 4, 81, 1]), (.iload_n 1, 0, [1]), (.aload_n 0, 0, [0]), (.invokevirtual 128, 0, [213, 15, 31, 29, 0, 0]), (.iastore, 0, []), (.aload_n 0, 0, [0]), (.getfield 26, 9, [15, 4, 81, 1]), (.iload_n 1, 0, [1]), (.iaload, 0, []), (.ldc 104, 65536, []), (.if_icmp .eq 25, 0, [91]), (.aload_n 0, 0, [0]), (.getfield 26, 9, [15, 4, 81, 1]), (.iload_n 1, 0, [1]), (.iaload, 0, []), (.ldc 105, 1330926671, []), (.if_icmp .eq 14, 0, [91]), (.new 64, 0, [17, 35, 8]), (.dup, 0, []), (.bipush 52, 52, []), (.iload_n 3, 0, [3]), (.invokespecial 66, 0, [470, 17, 35, 70, 0, 100, 0, 0]), (.athrow, 0, [])]
def s219_91 : List E := [(.ldc2_w 181, -1, []), (.lstore 4, 0, [4]), (.iconst (-1), -1, []), (.istore 6, 0, [6]), (.iconst (-1), -1, []), (.istore 7, 0, [7]), (.iconst 0, 0, []), (.istore 8, 0, [8]), (.nop, 0, [105])]
def s219_105 : List E := [(.iload 8, 0, [8]), (.aload_n 0, 0, [0]), (.getfield 29, 10, [15, 5, 81, 1]), (.iload_n 1, 0, [1]), (.iaload, 0, []), (.if_icmp .ge 152, 0, [265]), (.aload_n 0, 0, [0]), (.getfield 61, 0, [15, 1, 0]), (.istore_n 2, 0, [2]), (.aload_n 0, 0, [0]), (.invokevirtual 172, 0, [217, 15, 31, 8, 0, 0]), (.istore 9, 0, [9]), (.iload 9, 0, [9]), (.aload_n 0, 0, [0]), (.getfield 18, 1, [15, 2, 29, 1]), (.getfield 107, 0, [14, 0, 0]), (.if_icmp .ge 36, 0, [172]), (.aload_n 0, 0, [0]), (.getfield 18, 1, [15, 2, 29, 1]), (.getfield 124, 1, [14, 1, 87, 1]), (.iload 9, 0, [9]), (.laload, 0, []), (.lload 4, 0, [4]), (.lcmp, 0, []), (.ifCond .le 20, 0, [172]), (.aload_n 0, 0, [0]), (.getfield 18, 1, [15, 2, 29, 1]), (.getfield 124, 1, [14, 1, 87, 1]), (.iload 9, 0, [9]), (.laload, 0, []), (.getstatic 169, 1146308935, [6]), (.lcmp, 0, []), (.ifCond .ne 14, 0, [183]), (.nop, 0, [172])]
def s219_172 : List E := [(.new 64, 0, [17, 35, 8]), (.dup, 0, []), (.bipush 52, 52, []), (.iload_n 2, 0, [2]), (.invokespecial 66, 0, [470, 17, 35, 70, 0, 100, 0, 0]), (.athrow, 0, [])]
def s219_183 : List E := [(.aload_n 0, 0, [0]), (.getfield 18, 1, [15, 2, 29, 1]), (.getfield 124, 1, [14, 1, 87, 1]), (.iload 9, 0, [9]), (.laload, 0, []), (.lstore 4, 0, [4]), (.aload_n 0, 0, [0]), (.getfield 32, 11, [15, 6, 81, 1]), (.bipush 16, 16, []), (.iload_n 1, 0, [1]), (.imul, 0, []), (.iload 8, 0, [8]), (.iadd, 0, []), (.iload 9, 0, [9]), (.iastore, 0, []), (.aload_n 0, 0, [0]), (.getfield 18, 1, [15, 2, 29, 1]), (.getfield 163, 6, [14, 6, 81, 1]), (.iload 9, 0, [9]), (.iaload, 0, []), (.ifCond .ge 14, 0, [233]), (.aload_n 0, 0, [0]), (.getfield 18, 1, [15, 2, 29, 1]), (.getfield 163, 6, [14, 6, 81, 1]), (.iload 9, 0, [9]), (.iload_n 1, 0, [1]), (.iastore, 0, []), (.nop, 0, [233])]
def s219_233 : List E := [(.lload 4, 0, [4]), (.getstatic 137, 1735162214, [5]), (.lcmp, 0, []), (.ifCond .ne 7, 0, [246]), (.iload 9, 0, [9]), (.istore 6, 0, [6]), (.nop, 0, [246])]
def s219_246 : List E := [(.lload 4, 0, [4]), (.getstatic 140, 1819239265, [4]), (.lcmp, 0, []), (.ifCond .ne 7, 0, [259]), (.iload 9, 0, [9]), (.istore 7, 0, [7]), (.nop, 0, [259])]
def s219_259 : List E := [(.iinc 8 1, 1, [8]), (.goto (-157), 0, [105])]
def s219_265 : List E := [(.iload 6, 0, [6]), (.ifCond .ge 7, 0, [274]), (.iconst 1, 1, []), (.goto 4, 0, [275])]
def s219_274 : List E := [(.iconst 0, 0, []), (.nop, 0, [275])]
def s219_275 : List E := [(.iload 7, 0, [7]), (.ifCond .ge 7, 0, [284]), (.iconst 1, 1, []), (.goto 4, 0, [285])]
def s219_284 : List E := [(.iconst 0, 0, []), (.nop, 0, [285])]
def s219_285 : List E := [(.if_icmp .ne 17, 0, [302]), (.iload 6, 0, [6]), (.ifCond .lt 23, 0, [313]), (.iload 7, 0, [7]), (.iload 6, 0, [6]), (.iconst 1, 1, []), (.iadd, 0, []), (.if_icmp .eq 14, 0, [313]), (.nop, 0, [302])]
def s219_302 : List E := [(.new 64, 0, [17, 35, 8]), (.dup, 0, []), (.bipush 52, 52, []), (.iload_n 3, 0, [3]), (.invokespecial 66, 0, [470, 17, 35, 70, 0, 100, 0, 0]), (.athrow, 0, [])]
def s219_313 : List E := [(.return_, 0, [])]
def cd219 : List (Nat × List E) := [(0, s219_0), (43, s219_43), (91, s219_91), (105, s219_105), (172, s219_172), (183, s219_183), (233, s219_233), (246, s219_246), (259, s219_259), (265, s219_265), (274, s219_274), (275, s219_275), (284, s219_284), (285, s219_285), (302, s219_302), (313, s219_313)]
theorem l219_0 : lkc cd219 0 = s219_0 := rfl
theorem l219_43 : lkc cd219 43 = s219_43 := rfl
theorem l219_91 : lkc cd219 91 = s219_91 := rfl
theorem l219_105 : lkc cd219 105 = s219_105 := rfl
theorem l219_172 : lkc cd219 172 = s219_172 := rfl
theorem l219_183 : lkc cd219 183 = s219_183 := rfl
theorem l219_233 : lkc cd219 233 = s219_233 := rfl
theorem l219_246 : lkc cd219 246 = s219_246 := rfl
theorem l219_259 : lkc cd219 259 = s219_259 := rfl
theorem l219_265 : lkc cd219 265 = s219_265 := rfl
theorem l219_274 : lkc cd219 274 = s219_274 := rfl
theorem l219_275 : lkc cd219 275 = s219_275 := rfl
theorem l219_284 : lkc cd219 284 = s219_284 := rfl
theorem l219_285 : lkc cd219 285 = s219_285 := rfl
theorem l219_302 : lkc cd219 302 = s219_302 := rfl
theorem l219_313 : lkc cd219 313 = s219_313 := rfl
theorem k219 : chkM 219 15 true cd219 = true := by decide +kernel
/- Unpacker.one()V -/
def s220_0 : List E := [(.aload_n 0, 0, [0]), (.getfield 18, 1, [15, 2, 29, 1]), (.iconst 1, 1, []), (.putfield 166, 0, [14, 7, 0]), (.aload_n 0, 0, [0]), (.getfield 26, 9, [15, 4, 81, 1]), (.iconst 0, 0, []), (.aload_n 0, 0, [0]), (.getfield 54, 0, [15, 0, 7]), (.iconst 4, 4, []), (.invokevirtual 76, 0, [117, 1, 3, 29, 0, 0, 0]), (.iastore, 0, []), (.iconst 0, 0, []), (.istore_n 1, 0, [1]), (.nop, 0, [24])]
def s220_24 : List E := [(.iload_n 1, 0, [1]), (.aload_n 0, 0, [0]), (.getfield 18, 1, [15, 2, 29, 1]), (.getfield 107, 0, [14, 0, 0]), (.if_icmp .ge 89, 0, [121]), (.aload_n 0, 0, [0]), (.getfield 18, 1, [15, 2, 29, 1]), (.getfield 124, 1, [14, 1, 87, 1]), (.iload_n 1, 0, [1]), (.laload, 0, []), (.getstatic 169, 1146308935, [6]), (.lcmp, 0, []), (.ifCond .eq 7, 0, [55]), (.iconst 1, 1, []), (.goto 4, 0, [56])]
def s220_55 : List E := [(.iconst 0, 0, []), (.nop, 0, [56])]
def s220_56 : List E := [(.istore_n 2, 0, [2]), (.iconst 0, 0, []), (.istore_n 3, 0, [3]), (.nop, 0, [59])]
def s220_59 : List E := [(.iload_n 3, 0, [3]), (.iload_n 1, 0, [1]), (.if_icmp .ge 39, 0, [100]), (.iload_n 2, 0, [2]), (.aload_n 0, 0, [0]), (.getfield 18, 1, [15, 2, 29, 1]), (.getfield 124, 1, [14, 1, 87, 1]), (.iload_n 3, 0, [3]), (.laload, 0, []), (.aload_n 0, 0, [0]), (.getfield 18, 1, [15, 2, 29, 1]), (.getfield 124, 1, [14, 1, 87, 1]), (.iload_n 1, 0, [1]), (.laload, 0, []), (.lcmp, 0, []), (.ifCond .eq 7, 0, [91]), (.iconst 1, 1, []), (.goto 4, 0, [92])]
def s220_91 : List E := [(.iconst 0, 0, []), (.nop, 0, [92])]
def s220_92 : List E := [(.iand, 0, []), (.istore_n 2, 0, [2]), (.iinc 3 1, 1, [3]), (.goto (-38), 0, [59])]
def s220_100 : List E := [(.iload_n 2, 0, [2]), (.ifCond .ne 14, 0, [115]), (.new 64, 0, [17, 35, 8]), (.dup, 0, []), (.bipush 51, 51, []), (.iload_n 1, 0, [1]), (.invokespecial 66, 0, [470, 17, 35, 8, 0, 100, 0, 0]), (.athrow, 0, [])]
def s220_115 : List E := [(.iinc 1 1, 1, [1]), (.goto (-94), 0, [24])]
def s220_121 : List E := [(.aload_n 0, 0, [0]), (.getfield 18, 1, [15, 2, 29, 1]), (.getfield 107, 0, [14, 0, 0]), (.bipush 16, 16, []), (.if_icmp .le 15, 0, [145]), (.new 64, 0, [17, 35, 8]), (.dup, 0, []), (.bipush 51, 51, []), (.bipush 16, 16, []), (.invokespecial 66, 0, [470, 17, 35, 8, 0, 100, 0, 0]), (.athrow, 0, [])]
def s220_145 : List E := [(.aload_n 0, 0, [0]), (.getfield 29, 10, [15, 5, 81, 1]), (.iconst 0, 0, []), (.aload_n 0, 0, [0]), (.getfield 18, 1, [15, 2, 29, 1]), (.getfield 107, 0, [14, 0, 0]), (.iastore, 0, []), (.iconst 0, 0, []), (.istore_n 1, 0, [1]), (.nop, 0, [160])]
def s220_160 : List E := [(.iload_n 1, 0, [1]), (.aload_n 0, 0, [0]), (.getfield 18, 1, [15, 2, 29, 1]), (.getfield 107, 0, [14, 0, 0]), (.if_icmp .ge 26, 0, [194]), (.aload_n 0, 0, [0]), (.getfield 32, 11, [15, 6, 81, 1]), (.iload_n 1, 0, [1]), (.iload_n 1, 0, [1]), (.iastore, 0, []), (.aload_n 0, 0, [0]), (.getfield 18, 1, [15, 2, 29, 1]), (.getfield 163, 6, [14, 6, 81, 1]), (.iload_n 1, 0, [1]), (.iconst 0, 0, []), (.iastore, 0, []), (.iinc 1 1, 1, [1]), (.goto (-31), 0, [160])]
def s220_194 : List E := [(.return_, 0, [])]
def cd220 : List (Nat × List E) := [(0, s220_0), (24, s220_24), (55, s220_55), (56, s220_56), (59, s220_59), (91, s220_91), (92, s220_92), (100, s220_100), (115, s220_115), (121, s220_121), (145, s220_145), (160, s220_160), (194, s220_194)]
theorem l220_0 : lkc cd220 0 = s220_0 := rfl
theorem l220_24 : lkc cd220 24 = s220_24 := rfl
theorem l220_55 : lkc cd220 55 = s220_55 := rfl
theorem l220_56 : lkc cd220 56 = s220_56 := rfl
theorem l220_59 : lkc cd220 59 = s220_59 := rfl
theorem l220_91 : lkc cd220 91 = s220_91 := rfl
theorem l220_92 : lkc cd220 92 = s220_92 := rfl
theorem l220_100 : lkc cd220 100 = s220_100 := rfl
theorem l220_115 : lkc cd220 115 = s220_115 := rfl
theorem l220_121 : lkc cd220 121 = s220_121 := rfl
theorem l220_145 : lkc cd220 145 = s220_145 := rfl
theorem l220_160 : lkc cd220 160 = s220_160 := rfl
theorem l220_194 : lkc cd220 194 = s220_194 := rfl
theorem k220 : chkM 220 15 true cd220 = true := by decide +kernel
/- Unpacker.stream()V -/
def s221_0 : List E := [(.aload_n 0, 0, [0]), (.getfield 54, 0, [15, 0, 7]), (.bipush 20, 20, []), (.invokevirtual 116, 0, [122, 1, 3, 271, 0, 5, 0]), (.lstore_n 1, 0, [1]), (.aload_n 0, 0, [0]), (.aload_n 0, 0, [0]), (.getfield 61, 0, [15, 1, 0]), (.i2l, 0, []), (.lload_n 1, 0, [1]), (.ladd, 0, []), (.invokevirtual 183, 0, [222, 15, 31, 333, 0, 3, 5]), (.ifCond .ne 15, 0, [36]), (.new 64, 0, [17, 35, 8]), (.dup, 0, []), (.bipush 53, 53, []), (.bipush 20, 20, []), (.invokespecial 66, 0, [470, 17, 35, 271, 0, 100, 0, 0]), (.athrow, 0, [])]
def s221_36 : List E := [(.aload_n 0, 0, [0]), (.getfield 61, 0, [15, 1, 0]), (.lload_n 1, 0, [1]), (.l2i, 0, []), (.iadd, 0, []), (.istore_n 3, 0, [3]), (.iload_n 3, 0, [3]), (.istore 4, 0, [4]), (.nop, 0, [47])]
def s221_47 : List E := [(.iload 4, 0, [4]), (.aload_n 0, 0, [0]), (.getfield 54, 0, [15, 0, 7]), (.getfield 57, 0, [1, 1, 0]), (.if_icmp .ge 33, 0, [89]), (.aload_n 0, 0, [0]), (.getfield 54, 0, [15, 0, 7]), (.iload 4, 0, [4]), (.invokevirtual 79, 0, [114, 1, 3, 334, 0, 0, 0]), (.ifCond .eq 15, 0, [83]), (.new 64, 0, [17, 35, 8]), (.dup, 0, []), (.bipush 54, 54, []), (.iload 4, 0, [4]), (.invokespecial 66, 0, [470, 17, 35, 271, 0, 100, 0, 0]), (.athrow, 0, [])]
def s221_83 : List E := [(.iinc 4 1, 1, [4]), (.goto (-39), 0, [47])]
def s221_89 : List E := [(.aload_n 0, 0, [0]), (.getfield 40, 12, [15, 7, 3, 1]), (.invokevirtual 187, 0, [112, 1, 3, 335, 0, 100]), (.aload_n 0, 0, [0]), (.getfield 40, 12, [15, 7, 3, 1]), (.aload_n 0, 0, [0]), (.getfield 54, 0, [15, 0, 7]), (.aload_n 0, 0, [0]), (.getfield 61, 0, [15, 1, 0]), (.lload_n 1, 0, [1]), (.l2i, 0, []), (.invokevirtual 190, 0, [115, 1, 3, 272, 0, 100, 0, 0, 7]), (.aload_n 0, 0, [0]), (.getfield 3, -417, [15, 10, 1, 1]), (.getfield 194, 259, [0, 7, 9, 1]), (.aload_n 0, 0, [0]), (.getfield 40, 12, [15, 7, 3, 1]), (.invokevirtual 198, 0, [490, 4, 9, 8, 0, 100, 7]), (.iconst 0, 0, []), (.istore 4, 0, [4]), (.iconst 0, 0, []), (.istore 5, 0, [5]), (.nop, 0, [133])]
def s221_133 : List E := [(.iload 5, 0, [5]), (.aload_n 0, 0, [0]), (.getfield 18, 1, [15, 2, 29, 1]), (.getfield 107, 0, [14, 0, 0]), (.if_icmp .ge 33, 0, [175]), (.aload_n 0, 0, [0]), (.getfield 44, 14, [15, 8, 81, 1]), (.iload 5, 0, [5]), (.iload 4, 0, [4]), (.iastore, 0, []), (.iload 4, 0, [4]), (.aload_n 0, 0, [0]), (.getfield 18, 1, [15, 2, 29, 1]), (.getfield 152, 4, [14, 4, 81, 1]), (.iload 5, 0, [5]), (.iaload, 0, []), (.iadd, 0, []), (.istore 4, 0, [4]), (.iinc 5 1, 1, [5]), (.goto (-39), 0, [133])]
def s221_175 : List E := [(.iload 4, 0, [4]), (.aload_n 0, 0, [0]), (.getfield 3, -417, [15, 10, 1, 1]), (.getfield 194, 259, [0, 7, 9, 1]), (.getfield 204, 1, [4, 2, 3, 1]), (.getfield 57, 0, [1, 1, 0]), (.if_icmp .eq 26, 0, [216]), (.new 64, 0, [17, 35, 8]), (.dup, 0, []), (.bipush 55, 55, []), (.aload_n 0, 0, [0]), (.getfield 3, -417, [15, 10, 1, 1]), (.getfield 194, 259, [0, 7, 9, 1]), (.getfield 204, 1, [4, 2, 3, 1]), (.getfield 57, 0, [1, 1, 0]), (.invokespecial 66, 0, [470, 17, 35, 271, 0, 100, 0, 0]), (.athrow, 0, [])]
def s221_216 : List E := [(.aload_n 0, 0, [0]), (.getfield 18, 1, [15, 2, 29, 1]), (.iload 4, 0, [4]), (.putfield 207, 0, [14, 8, 0]), (.aload_n 0, 0, [0]), (.getfield 18, 1, [15, 2, 29, 1]), (.lload_n 1, 0, [1]), (.l2i, 0, []), (.putfield 210, 0, [14, 9, 0]), (.return_, 0, [])]
def cd221 : List (Nat × List E) := [(0, s221_0), (36, s221_36), (47, s221_47), (83, s221_83), (89, s221_89), (133, s221_133), (175, s221_175), (216, s221_216)]
theorem l221_0 : lkc cd221 0 = s221_0 := rfl
theorem l221_36 : lkc cd221 36 = s221_36 := rfl
theorem l221_47 : lkc cd221 47 = s221_47 := rfl
theorem l221_83 : lkc cd221 83 = s221_83 := rfl
theorem l221_89 : lkc cd221 89 = s221_89 := rfl
theorem l221_133 : lkc cd221 133 = s221_133 := rfl
theorem l221_175 : lkc cd221 175 = s221_175 := rfl
theorem l221_216 : lkc cd221 216 = s221_216 := rfl
theorem k221 : chkM 221 15 true cd221 = true := by decide +kernel
