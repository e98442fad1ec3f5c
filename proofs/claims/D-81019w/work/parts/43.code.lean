set_option maxRecDepth 100000
/- FontHouseModel.tables(I)I -/
def s350_0 : List E := [(.iload_n 1, 0, [1]), (.invokestatic 640, 0, [312, 8, 0, 3, 0]), (.ifCond .ne 7, 0, [11]), (.iconst (-1), -1, []), (.goto 23, 0, [31])]
def s350_11 : List E := [(.aload_n 0, 0, [0]), (.getfield 132, 38, [16, 53, 89, 1]), (.iload_n 1, 0, [1]), (.baload, 0, [44]), (.ifCond .ne 8, 0, [25]), (.bipush (-3), -3, []), (.goto 9, 0, [31])]
def s350_25 : List E := [(.aload_n 0, 0, [0]), (.getfield 138, 40, [16, 55, 81, 1]), (.iload_n 1, 0, [1]), (.iaload, 0, []), (.nop, 0, [31])]
def s350_31 : List E := [(.ireturn, 0, [])]
def cd350 : List (Nat × List E) := [(0, s350_0), (11, s350_11), (25, s350_25), (31, s350_31)]
theorem l350_0 : lkc cd350 0 = s350_0 := rfl
theorem l350_11 : lkc cd350 11 = s350_11 := rfl
theorem l350_25 : lkc cd350 25 = s350_25 := rfl
theorem l350_31 : lkc cd350 31 = s350_31 := rfl
theorem k350 : chkM 350 16 true cd350 = true := by decide +kernel
/- FontHouseModel.table(III)J -/
def s351_0 : List E := [(.aload_n 0, 0, [0]), (.iload_n 1, 0, [1]), (.iload_n 2, 0, [2]), (.invokevirtual 768, 0, [352, 16, 33, 13, 0, 0, 0, 0]), (.istore 4, 0, [4]), (.iload 4, 0, [4]), (.ifCond .lt 12, 0, [22]), (.iload_n 3, 0, [3]), (.ifCond .lt 8, 0, [22]), (.iload_n 3, 0, [3]), (.iconst 3, 3, []), (.if_icmp .le 18, 0, [37]), (.nop, 0, [22])]
def s351_22 : List E := [(.iload 4, 0, [4]), (.ifCond .ge 9, 0, [33]), (.iload 4, 0, [4]), (.i2l, 0, []), (.goto 6, 0, [36])]
def s351_33 : List E := [(.ldc2_w 771, -2, []), (.nop, 0, [36])]
def s351_36 : List E := [(.lreturn, 0, [])]
def s351_37 : List E := [(.aload_n 0, 0, [0]), (.getfield 144, 42, [16, 57, 81, 1]), (.bipush 16, 16, []), (.iload_n 1, 0, [1]), (.imul, 0, []), (.iload_n 2, 0, [2]), (.iadd, 0, []), (.iaload, 0, []), (.istore 5, 0, [5]), (.iload_n 3, 0, [3]), (.iconst 3, 3, []), (.if_icmp .ge 67, 0, [119]), (.iload_n 3, 0, [3]), (.ifCond .ne 17, 0, [73]), (.aload_n 0, 0, [0]), (.getfield 141, 41, [16, 56, 87, 1]), (.bipush 16, 16, []), (.iload_n 1, 0, [1]), (.imul, 0, []), (.iload_n 2, 0, [2]), (.iadd, 0, []), (.laload, 0, []), (.goto 48, 0, [118])]
def s351_73 : List E := [(.iload_n 3, 0, [3]), (.iconst 1, 1, []), (.if_icmp .ne 14, 0, [89]), (.aload_n 0, 0, [0]), (.getfield 126, 36, [16, 51, 81, 1]), (.iload 5, 0, [5]), (.iaload, 0, []), (.i2l, 0, []), (.goto 32, 0, [118])]
def s351_89 : List E := [(.aload_n 0, 0, [0]), (.iload 5, 0, [5]), (.aload_n 0, 0, [0]), (.getfield 141, 41, [16, 56, 87, 1]), (.bipush 16, 16, []), (.iload_n 1, 0, [1]), (.imul, 0, []), (.iload_n 2, 0, [2]), (.iadd, 0, []), (.laload, 0, []), (.ldc2_w 656, 1751474532, []), (.lcmp, 0, []), (.ifCond .ne 7, 0, [114]), (.iconst 1, 1, []), (.goto 4, 0, [115])]
def s351_114 : List E := [(.iconst 0, 0, []), (.nop, 0, [115])]
def s351_115 : List E := [(.invokevirtual 745, 0, [343, 16, 33, 8, 0, 5, 3, 0]), (.nop, 0, [118])]
def s351_118 : List E := [(.lreturn, 0, [])]
def s351_119 : List E := [(.lconst 0, 0, []), (.lstore 6, 0, [6]), (.iconst 0, 0, []), (.istore 8, 0, [8]), (.nop, 0, [125])]
def s351_125 : List E := [(.iload 8, 0, [8]), (.iconst 4, 4, []), (.if_icmp .ge 88, 0, [216]), (.iconst 0, 0, []), (.istore 9, 0, [9]), (.iconst 0, 0, []), (.istore 10, 0, [10]), (.nop, 0, [137])]
def s351_137 : List E := [(.aload_n 0, 0, [0]), (.getfield 132, 38, [16, 53, 89, 1]), (.iload 8, 0, [8]), (.baload, 0, [44]), (.ifCond .eq 51, 0, [195]), (.iload 10, 0, [10]), (.aload_n 0, 0, [0]), (.getfield 138, 40, [16, 55, 81, 1]), (.iload 8, 0, [8]), (.iaload, 0, []), (.if_icmp .ge 39, 0, [195]), (.iload 9, 0, [9]), (.ifCond .ne 21, 0, [182]), (.aload_n 0, 0, [0]), (.getfield 144, 42, [16, 57, 81, 1]), (.bipush 16, 16, []), (.iload 8, 0, [8]), (.imul, 0, []), (.iload 10, 0, [10]), (.iadd, 0, []), (.iaload, 0, []), (.iload 5, 0, [5]), (.if_icmp .ne 7, 0, [186]), (.nop, 0, [182])]
def s351_182 : List E := [(.iconst 1, 1, []), (.goto 4, 0, [187])]
def s351_186 : List E := [(.iconst 0, 0, []), (.nop, 0, [187])]
def s351_187 : List E := [(.istore 9, 0, [9]), (.iinc 10 1, 1, [10]), (.goto (-55), 0, [137])]
def s351_195 : List E := [(.lload 6, 0, [6]), (.iload 9, 0, [9]), (.ifCond .eq 7, 0, [206]), (.lconst 1, 1, []), (.goto 4, 0, [207])]
def s351_206 : List E := [(.lconst 0, 0, []), (.nop, 0, [207])]
def s351_207 : List E := [(.ladd, 0, []), (.lstore 6, 0, [6]), (.iinc 8 1, 1, [8]), (.goto (-88), 0, [125])]
def s351_216 : List E := [(.lload 6, 0, [6]), (.lreturn, 0, [])]
def cd351 : List (Nat × List E) := [(0, s351_0), (22, s351_22), (33, s351_33), (36, s351_36), (37, s351_37), (73, s351_73), (89, s351_89), (114, s351_114), (115, s351_115), (118, s351_118), (119, s351_119), (125, s351_125), (137, s351_137), (182, s351_182), (186, s351_186), (187, s351_187), (195, s351_195), (206, s351_206), (207, s351_207), (216, s351_216)]
theorem l351_0 : lkc cd351 0 = s351_0 := rfl
theorem l351_22 : lkc cd351 22 = s351_22 := rfl
theorem l351_33 : lkc cd351 33 = s351_33 := rfl
theorem l351_36 : lkc cd351 36 = s351_36 := rfl
theorem l351_37 : lkc cd351 37 = s351_37 := rfl
theorem l351_73 : lkc cd351 73 = s351_73 := rfl
theorem l351_89 : lkc cd351 89 = s351_89 := rfl
theorem l351_114 : lkc cd351 114 = s351_114 := rfl
theorem l351_115 : lkc cd351 115 = s351_115 := rfl
theorem l351_118 : lkc cd351 118 = s351_118 := rfl
theorem l351_119 : lkc cd351 119 = s351_119 := rfl
theorem l351_125 : lkc cd351 125 = s351_125 := rfl
theorem l351_137 : lkc cd351 137 = s351_137 := rfl
theorem l351_182 : lkc cd351 182 = s351_182 := rfl
theorem l351_186 : lkc cd351 186 = s351_186 := rfl
theorem l351_187 : lkc cd351 187 = s351_187 := rfl
theorem l351_195 : lkc cd351 195 = s351_195 := rfl
theorem l351_206 : lkc cd351 206 = s351_206 := rfl
theorem l351_207 : lkc cd351 207 = s351_207 := rfl
theorem l351_216 : lkc cd351 216 = s351_216 := rfl
theorem k351 : chkM 351 16 true cd351 = true := by decide +kernel
/- FontHouseModel.tableFault(II)I -/
def s352_0 : List E := [(.iload_n 1, 0, [1]), (.invokestatic 640, 0, [312, 8, 0, 3, 0]), (.ifCond .ne 7, 0, [11]), (.iconst (-1), -1, []), (.goto 36, 0, [44])]
def s352_11 : List E := [(.aload_n 0, 0, [0]), (.getfield 132, 38, [16, 53, 89, 1]), (.iload_n 1, 0, [1]), (.baload, 0, [44]), (.ifCond .ne 8, 0, [25]), (.bipush (-3), -3, []), (.goto 22, 0, [44])]
def s352_25 : List E := [(.iload_n 2, 0, [2]), (.ifCond .lt 13, 0, [39]), (.iload_n 2, 0, [2]), (.aload_n 0, 0, [0]), (.getfield 138, 40, [16, 55, 81, 1]), (.iload_n 1, 0, [1]), (.iaload, 0, []), (.if_icmp .lt 7, 0, [43]), (.nop, 0, [39])]
def s352_39 : List E := [(.iconst (-1), -1, []), (.goto 4, 0, [44])]
def s352_43 : List E := [(.iconst 0, 0, []), (.nop, 0, [44])]
def s352_44 : List E := [(.ireturn, 0, [])]
def cd352 : List (Nat × List E) := [(0, s352_0), (11, s352_11), (25, s352_25), (39, s352_39), (43, s352_43), (44, s352_44)]
theorem l352_0 : lkc cd352 0 = s352_0 := rfl
theorem l352_11 : lkc cd352 11 = s352_11 := rfl
theorem l352_25 : lkc cd352 25 = s352_25 := rfl
theorem l352_39 : lkc cd352 39 = s352_39 := rfl
theorem l352_43 : lkc cd352 43 = s352_43 := rfl
theorem l352_44 : lkc cd352 44 = s352_44 := rfl
theorem k352 : chkM 352 16 true cd352 = true := by decide +kernel
/- FontHouseModel.octet(III)I -/
def s353_0 : List E := [(.aload_n 0, 0, [0]), (.iload_n 1, 0, [1]), (.iload_n 2, 0, [2]), (.invokevirtual 768, 0, [352, 16, 33, 8, 0, 0, 0, 0]), (.istore 4, 0, [4]), (.iload 4, 0, [4]), (.ifCond .ge 6, 0, [16]), (.iload 4, 0, [4]), (.ireturn, 0, [])]
def s353_16 : List E := [(.aload_n 0, 0, [0]), (.getfield 144, 42, [16, 57, 81, 1]), (.bipush 16, 16, []), (.iload_n 1, 0, [1]), (.imul, 0, []), (.iload_n 2, 0, [2]), (.iadd, 0, []), (.iaload, 0, []), (.istore 5, 0, [5]), (.iload_n 3, 0, [3]), (.ifCond .lt 14, 0, [44]), (.iload_n 3, 0, [3]), (.aload_n 0, 0, [0]), (.getfield 126, 36, [16, 51, 81, 1]), (.iload 5, 0, [5]), (.iaload, 0, []), (.if_icmp .lt 8, 0, [49]), (.nop, 0, [44])]
def s353_44 : List E := [(.bipush (-2), -2, []), (.goto 10, 0, [56])]
def s353_49 : List E := [(.aload_n 0, 0, [0]), (.iload 5, 0, [5]), (.iload_n 3, 0, [3]), (.invokevirtual 612, 0, [344, 16, 33, 28, 0, 0, 0, 0]), (.nop, 0, [56])]
def s353_56 : List E := [(.ireturn, 0, [])]
def cd353 : List (Nat × List E) := [(0, s353_0), (16, s353_16), (44, s353_44), (49, s353_49), (56, s353_56)]
theorem l353_0 : lkc cd353 0 = s353_0 := rfl
theorem l353_16 : lkc cd353 16 = s353_16 := rfl
theorem l353_44 : lkc cd353 44 = s353_44 := rfl
theorem l353_49 : lkc cd353 49 = s353_49 := rfl
theorem l353_56 : lkc cd353 56 = s353_56 := rfl
theorem k353 : chkM 353 16 true cd353 = true := by decide +kernel
/- FontHouseModel.other(IJI)I -/
def s354_0 : List E := [(.iload_n 1, 0, [1]), (.invokestatic 640, 0, [312, 52, 0, 3, 0]), (.ifCond .eq 11, 0, [15]), (.iload 4, 0, [4]), (.invokestatic 329, 0, [229, 52, 0, 3, 0]), (.ifCond .ne 5, 0, [17]), (.nop, 0, [15])]
def s354_15 : List E := [(.iconst (-1), -1, []), (.ireturn, 0, [])]
def s354_17 : List E := [(.lload_n 2, 0, [2]), (.invokestatic 773, 0, [355, 51, 0, 3, 5]), (.ifCond .ne 6, 0, [27]), (.bipush (-2), -2, []), (.ireturn, 0, [])]
def s354_27 : List E := [(.aload_n 0, 0, [0]), (.getfield 132, 38, [16, 53, 89, 1]), (.iload_n 1, 0, [1]), (.baload, 0, [44]), (.ifCond .ne 6, 0, [39]), (.bipush (-3), -3, []), (.ireturn, 0, [])]
def s354_39 : List E := [(.aload_n 0, 0, [0]), (.getfield 14, 2, [16, 1, 81, 1]), (.iload 4, 0, [4]), (.iaload, 0, []), (.sipush 12000, 12000, []), (.if_icmp .gt 23, 0, [72]), (.aload_n 0, 0, [0]), (.getfield 138, 40, [16, 55, 81, 1]), (.iload_n 1, 0, [1]), (.iaload, 0, []), (.bipush 16, 16, []), (.if_icmp .ne 15, 0, [75]), (.aload_n 0, 0, [0]), (.iload_n 1, 0, [1]), (.lload_n 2, 0, [2]), (.invokevirtual 636, 0, [320, 16, 33, 48, 0, 0, 5, 0]), (.ifCond .ge 6, 0, [75]), (.nop, 0, [72])]
def s354_72 : List E := [(.bipush (-4), -4, []), (.ireturn, 0, [])]
def s354_75 : List E := [(.aload_n 0, 0, [0]), (.invokevirtual 643, 0, [313, 16, 33, 28, 0, 100]), (.aload_n 0, 0, [0]), (.aload_n 0, 0, [0]), (.getfield 14, 2, [16, 1, 81, 1]), (.iload 4, 0, [4]), (.iaload, 0, []), (.invokevirtual 621, 0, [316, 16, 33, 49, 0, 0, 0]), (.istore 5, 0, [5]), (.iconst 0, 0, []), (.istore 6, 0, [6]), (.nop, 0, [95])]
def s354_95 : List E := [(.iload 6, 0, [6]), (.aload_n 0, 0, [0]), (.getfield 14, 2, [16, 1, 81, 1]), (.iload 4, 0, [4]), (.iaload, 0, []), (.if_icmp .ge 37, 0, [141]), (.aload_n 0, 0, [0]), (.getfield 123, 35, [16, 50, 83, 1]), (.sipush 12000, 12000, []), (.iload 5, 0, [5]), (.imul, 0, []), (.iload 6, 0, [6]), (.iadd, 0, []), (.aload_n 0, 0, [0]), (.getfield 8, 1, [16, 0, 83, 1]), (.sipush 16000, 16000, []), (.iload 4, 0, [4]), (.imul, 0, []), (.iload 6, 0, [6]), (.iadd, 0, []), (.baload, 0, [41]), (.bastore, 0, [41]), (.iinc 6 1, 1, [6]), (.goto (-43), 0, [95])]
def s354_141 : List E := [(.aload_n 0, 0, [0]), (.iload_n 1, 0, [1]), (.lload_n 2, 0, [2]), (.iload 5, 0, [5]), (.invokevirtual 658, 0, [319, 16, 33, 23, 0, 100, 0, 5, 0]), (.aload_n 0, 0, [0]), (.invokevirtual 672, 0, [321, 16, 33, 8, 0, 3]), (.ifCond .eq 12, 0, [165]), (.aload_n 0, 0, [0]), (.getfield 138, 40, [16, 55, 81, 1]), (.iload_n 1, 0, [1]), (.iaload, 0, []), (.goto 5, 0, [167])]
def s354_165 : List E := [(.bipush (-4), -4, []), (.nop, 0, [167])]
def s354_167 : List E := [(.ireturn, 0, [])]
def cd354 : List (Nat × List E) := [(0, s354_0), (15, s354_15), (17, s354_17), (27, s354_27), (39, s354_39), (72, s354_72), (75, s354_75), (95, s354_95), (141, s354_141), (165, s354_165), (167, s354_167)]
theorem l354_0 : lkc cd354 0 = s354_0 := rfl
theorem l354_15 : lkc cd354 15 = s354_15 := rfl
theorem l354_17 : lkc cd354 17 = s354_17 := rfl
theorem l354_27 : lkc cd354 27 = s354_27 := rfl
theorem l354_39 : lkc cd354 39 = s354_39 := rfl
theorem l354_72 : lkc cd354 72 = s354_72 := rfl
theorem l354_75 : lkc cd354 75 = s354_75 := rfl
theorem l354_95 : lkc cd354 95 = s354_95 := rfl
theorem l354_141 : lkc cd354 141 = s354_141 := rfl
theorem l354_165 : lkc cd354 165 = s354_165 := rfl
theorem l354_167 : lkc cd354 167 = s354_167 := rfl
theorem k354 : chkM 354 16 true cd354 = true := by decide +kernel
/- FontHouseModel.isTag(J)Z -/
def s355_0 : List E := [(.lload_n 0, 0, [0]), (.lconst 0, 0, []), (.lcmp, 0, []), (.ifCond .lt 15, 0, [18]), (.lload_n 0, 0, [0]), (.ldc2_w 341, 4294967295, []), (.lcmp, 0, []), (.ifCond .gt 7, 0, [18]), (.iconst 1, 1, []), (.goto 4, 0, [19])]
def s355_18 : List E := [(.iconst 0, 0, []), (.nop, 0, [19])]
def s355_19 : List E := [(.ireturn, 0, [1])]
def cd355 : List (Nat × List E) := [(0, s355_0), (18, s355_18), (19, s355_19)]
theorem l355_0 : lkc cd355 0 = s355_0 := rfl
theorem l355_18 : lkc cd355 18 = s355_18 := rfl
theorem l355_19 : lkc cd355 19 = s355_19 := rfl
theorem k355 : chkM 355 16 true cd355 = true := by decide +kernel
/- FontHouseModel.drop(IJ)I -/
def s356_0 : List E := [(.iload_n 1, 0, [1]), (.invokestatic 640, 0, [312, 12, 0, 3, 0]), (.ifCond .ne 5, 0, [9]), (.iconst (-1), -1, []), (.ireturn, 0, [])]
def s356_9 : List E := [(.lload_n 2, 0, [2]), (.invokestatic 773, 0, [355, 11, 0, 3, 5]), (.ifCond .ne 6, 0, [19]), (.bipush (-2), -2, []), (.ireturn, 0, [])]
def s356_19 : List E := [(.aload_n 0, 0, [0]), (.getfield 132, 38, [16, 53, 89, 1]), (.iload_n 1, 0, [1]), (.baload, 0, [44]), (.ifCond .ne 6, 0, [31]), (.bipush (-3), -3, []), (.ireturn, 0, [])]
def s356_31 : List E := [(.aload_n 0, 0, [0]), (.iload_n 1, 0, [1]), (.lload_n 2, 0, [2]), (.invokevirtual 636, 0, [320, 16, 33, 8, 0, 0, 5, 0]), (.istore 4, 0, [4]), (.iload 4, 0, [4]), (.ifCond .ge 5, 0, [46]), (.iconst (-1), -1, []), (.ireturn, 0, [])]
def s356_46 : List E := [(.aload_n 0, 0, [0]), (.getfield 138, 40, [16, 55, 81, 1]), (.iload_n 1, 0, [1]), (.dup2, 0, []), (.iaload, 0, []), (.iconst 1, 1, []), (.isub, 0, []), (.iastore, 0, []), (.iload 4, 0, [4]), (.istore 5, 0, [5]), (.nop, 0, [60])]
def s356_60 : List E := [(.iload 5, 0, [5]), (.aload_n 0, 0, [0]), (.getfield 138, 40, [16, 55, 81, 1]), (.iload_n 1, 0, [1]), (.iaload, 0, []), (.if_icmp .ge 61, 0, [129]), (.aload_n 0, 0, [0]), (.getfield 141, 41, [16, 56, 87, 1]), (.bipush 16, 16, []), (.iload_n 1, 0, [1]), (.imul, 0, []), (.iload 5, 0, [5]), (.iadd, 0, []), (.aload_n 0, 0, [0]), (.getfield 141, 41, [16, 56, 87, 1]), (.bipush 16, 16, []), (.iload_n 1, 0, [1]), (.imul, 0, []), (.iload 5, 0, [5]), (.iadd, 0, []), (.iconst 1, 1, []), (.iadd, 0, []), (.laload, 0, []), (.lastore, 0, []), (.aload_n 0, 0, [0]), (.getfield 144, 42, [16, 57, 81, 1]), (.bipush 16, 16, []), (.iload_n 1, 0, [1]), (.imul, 0, []), (.iload 5, 0, [5]), (.iadd, 0, []), (.aload_n 0, 0, [0]), (.getfield 144, 42, [16, 57, 81, 1]), (.bipush 16, 16, []), (.iload_n 1, 0, [1]), (.imul, 0, []), (.iload 5, 0, [5]), (.iadd, 0, []), (.iconst 1, 1, []), (.iadd, 0, []), (.iaload, 0, []), (.iastore, 0, []), (.iinc 5 1, 1, [5]), (.goto (-66), 0, [60])]
def s356_129 : List E := [(.aload_n 0, 0, [0]), (.getfield 138, 40, [16, 55, 81, 1]), (.iload_n 1, 0, [1]), (.iaload, 0, []), (.ireturn, 0, [])]
def cd356 : List (Nat × List E) := [(0, s356_0), (9, s356_9), (19, s356_19), (31, s356_31), (46, s356_46), (60, s356_60), (129, s356_129)]
theorem l356_0 : lkc cd356 0 = s356_0 := rfl
theorem l356_9 : lkc cd356 9 = s356_9 := rfl
theorem l356_19 : lkc cd356 19 = s356_19 := rfl
theorem l356_31 : lkc cd356 31 = s356_31 := rfl
theorem l356_46 : lkc cd356 46 = s356_46 := rfl
theorem l356_60 : lkc cd356 60 = s356_60 := rfl
theorem l356_129 : lkc cd356 129 = s356_129 := rfl
theorem k356 : chkM 356 16 true cd356 = true := by decide +kernel
/- FontHouseModel.share(IIJ)I -/
def s357_0 : List E := [(.iload_n 1, 0, [1]), (.invokestatic 640, 0, [312, 37, 0, 3, 0]), (.ifCond .eq 10, 0, [14]), (.iload_n 2, 0, [2]), (.invokestatic 640, 0, [312, 37, 0, 3, 0]), (.ifCond .ne 5, 0, [16]), (.nop, 0, [14])]
def s357_14 : List E := [(.iconst (-1), -1, []), (.ireturn, 0, [])]
def s357_16 : List E := [(.lload_n 3, 0, [3]), (.invokestatic 773, 0, [355, 36, 0, 3, 5]), (.ifCond .ne 6, 0, [26]), (.bipush (-2), -2, []), (.ireturn, 0, [])]
def s357_26 : List E := [(.aload_n 0, 0, [0]), (.getfield 132, 38, [16, 53, 89, 1]), (.iload_n 1, 0, [1]), (.baload, 0, [44]), (.ifCond .eq 12, 0, [44]), (.aload_n 0, 0, [0]), (.getfield 132, 38, [16, 53, 89, 1]), (.iload_n 2, 0, [2]), (.baload, 0, [44]), (.ifCond .ne 6, 0, [47]), (.nop, 0, [44])]
def s357_44 : List E := [(.bipush (-3), -3, []), (.ireturn, 0, [])]
def s357_47 : List E := [(.aload_n 0, 0, [0]), (.iload_n 2, 0, [2]), (.lload_n 3, 0, [3]), (.invokevirtual 636, 0, [320, 16, 33, 33, 0, 0, 5, 0]), (.ifCond .ge 5, 0, [58]), (.iconst (-1), -1, []), (.ireturn, 0, [])]
def s357_58 : List E := [(.aload_n 0, 0, [0]), (.getfield 138, 40, [16, 55, 81, 1]), (.iload_n 1, 0, [1]), (.iaload, 0, []), (.bipush 16, 16, []), (.if_icmp .ne 15, 0, [81]), (.aload_n 0, 0, [0]), (.iload_n 1, 0, [1]), (.lload_n 3, 0, [3]), (.invokevirtual 636, 0, [320, 16, 33, 33, 0, 0, 5, 0]), (.ifCond .ge 6, 0, [81]), (.bipush (-4), -4, []), (.ireturn, 0, [])]
def s357_81 : List E := [(.aload_n 0, 0, [0]), (.iload_n 1, 0, [1]), (.lload_n 3, 0, [3]), (.aload_n 0, 0, [0]), (.iload_n 2, 0, [2]), (.lload_n 3, 0, [3]), (.invokevirtual 762, 0, [346, 16, 33, 9, 0, 0, 5, 0]), (.invokevirtual 658, 0, [319, 16, 33, 8, 0, 100, 0, 5, 0]), (.aload_n 0, 0, [0]), (.getfield 138, 40, [16, 55, 81, 1]), (.iload_n 1, 0, [1]), (.iaload, 0, []), (.ireturn, 0, [])]
def cd357 : List (Nat × List E) := [(0, s357_0), (14, s357_14), (16, s357_16), (26, s357_26), (44, s357_44), (47, s357_47), (58, s357_58), (81, s357_81)]
theorem l357_0 : lkc cd357 0 = s357_0 := rfl
theorem l357_14 : lkc cd357 14 = s357_14 := rfl
theorem l357_16 : lkc cd357 16 = s357_16 := rfl
theorem l357_26 : lkc cd357 26 = s357_26 := rfl
theorem l357_44 : lkc cd357 44 = s357_44 := rfl
theorem l357_47 : lkc cd357 47 = s357_47 := rfl
theorem l357_58 : lkc cd357 58 = s357_58 := rfl
theorem l357_81 : lkc cd357 81 = s357_81 := rfl
theorem k357 : chkM 357 16 true cd357 = true := by decide +kernel
/- FontHouseModel.flavor(II)I -/
def s358_0 : List E := [(.iload_n 1, 0, [1]), (.invokestatic 640, 0, [312, 10, 0, 3, 0]), (.ifCond .ne 5, 0, [9]), (.iconst (-1), -1, []), (.ireturn, 0, [])]
def s358_9 : List E := [(.aload_n 0, 0, [0]), (.iload_n 2, 0, [2]), (.i2l, 0, []), (.invokevirtual 684, 0, [328, 16, 33, 8, 0, 3, 5]), (.ifCond .ne 6, 0, [21]), (.bipush (-2), -2, []), (.ireturn, 0, [])]
def s358_21 : List E := [(.aload_n 0, 0, [0]), (.getfield 132, 38, [16, 53, 89, 1]), (.iload_n 1, 0, [1]), (.baload, 0, [44]), (.ifCond .ne 6, 0, [33]), (.bipush (-3), -3, []), (.ireturn, 0, [])]
def s358_33 : List E := [(.aload_n 0, 0, [0]), (.getfield 135, 39, [16, 54, 81, 1]), (.iload_n 1, 0, [1]), (.iaload, 0, []), (.istore_n 3, 0, [3]), (.aload_n 0, 0, [0]), (.getfield 135, 39, [16, 54, 81, 1]), (.iload_n 1, 0, [1]), (.iload_n 2, 0, [2]), (.iastore, 0, []), (.iload_n 3, 0, [3]), (.ireturn, 0, [])]
def cd358 : List (Nat × List E) := [(0, s358_0), (9, s358_9), (21, s358_21), (33, s358_33)]
theorem l358_0 : lkc cd358 0 = s358_0 := rfl
theorem l358_9 : lkc cd358 9 = s358_9 := rfl
theorem l358_21 : lkc cd358 21 = s358_21 := rfl
theorem l358_33 : lkc cd358 33 = s358_33 := rfl
theorem k358 : chkM 358 16 true cd358 = true := by decide +kernel
/- FontHouseModel.check(I)I -/
def s359_0 : List E := [(.iload_n 1, 0, [1]), (.invokestatic 640, 0, [312, 158, 0, 3, 0]), (.ifCond .ne 5, 0, [9]), (.iconst (-1), -1, []), (.ireturn, 0, [])]
def s359_9 : List E := [(.aload_n 0, 0, [0]), (.getfield 132, 38, [16, 53, 89, 1]), (.iload_n 1, 0, [1]), (.baload, 0, [44]), (.ifCond .ne 6, 0, [21]), (.bipush (-3), -3, []), (.ireturn, 0, [])]
def s359_21 : List E := [(.aload_n 0, 0, [0]), (.iconst 0, 0, []), (.putfield 343, 0, [16, 2, 0]), (.aload_n 0, 0, [0]), (.iconst (-1), -1, []), (.putfield 18, 0, [16, 3, 0]), (.aload_n 0, 0, [0]), (.iload_n 1, 0, [1]), (.iconst 1, 1, []), (.invokevirtual 796, 0, [360, 16, 33, 8, 0, 100, 3, 0]), (.aload_n 0, 0, [0]), (.getfield 343, 0, [16, 2, 0]), (.ifCond .le 13, 0, [54]), (.bipush (-10), -10, []), (.aload_n 0, 0, [0]), (.getfield 343, 0, [16, 2, 0]), (.isub, 0, []), (.goto 4, 0, [55])]
def s359_54 : List E := [(.iconst 0, 0, []), (.nop, 0, [55])]
def s359_55 : List E := [(.ireturn, 0, [])]
def cd359 : List (Nat × List E) := [(0, s359_0), (9, s359_9), (21, s359_21), (54, s359_54), (55, s359_55)]
theorem l359_0 : lkc cd359 0 = s359_0 := rfl
theorem l359_9 : lkc cd359 9 = s359_9 := rfl
theorem l359_21 : lkc cd359 21 = s359_21 := rfl
theorem l359_54 : lkc cd359 54 = s359_54 := rfl
theorem l359_55 : lkc cd359 55 = s359_55 := rfl
theorem k359 : chkM 359 16 true cd359 = true := by decide +kernel
/- FontHouseModel.checks(IZ)V -/
def s360_0 : List E := [(.aload_n 0, 0, [0]), (.iload_n 1, 0, [1]), (.ldc2_w 656, 1751474532, []), (.invokevirtual 762, 0, [346, 16, 33, 98, 0, 0, 5, 0]), (.istore_n 3, 0, [3]), (.aload_n 0, 0, [0]), (.iload_n 1, 0, [1]), (.ldc2_w 664, 1835104368, []), (.invokevirtual 762, 0, [346, 16, 33, 98, 0, 0, 5, 0]), (.istore 4, 0, [4]), (.aload_n 0, 0, [0]), (.iload_n 1, 0, [1]), (.ldc2_w 662, 1751672161, []), (.invokevirtual 762, 0, [346, 16, 33, 98, 0, 0, 5, 0]), (.istore 5, 0, [5]), (.aload_n 0, 0, [0]), (.iload_n 1, 0, [1]), (.ldc2_w 668, 1752003704, []), (.invokevirtual 762, 0, [346, 16, 33, 98, 0, 0, 5, 0]), (.istore 6, 0, [6]), (.aload_n 0, 0, [0]), (.iload_n 1, 0, [1]), (.ldc2_w 670, 1819239265, []), (.invokevirtual 762, 0, [346, 16, 33, 98, 0, 0, 5, 0]), (.istore 7, 0, [7]), (.aload_n 0, 0, [0]), (.iload_n 1, 0, [1]), (.ldc2_w 666, 1735162214, []), (.invokevirtual 762, 0, [346, 16, 33, 98, 0, 0, 5, 0]), (.istore 8, 0, [8]), (.iload_n 3, 0, [3]), (.ifCond .lt 32, 0, [92]), (.iload 4, 0, [4]), (.ifCond .lt 27, 0, [92]), (.iload 5, 0, [5]), (.ifCond .lt 22, 0, [92]), (.iload_n 2, 0, [2]), (.ifCond .eq 8, 0, [82]), (.iload 6, 0, [6]), (.ifCond .lt 13, 0, [92]), (.nop, 0, [82])]
def s360_82 : List E := [(.iload 7, 0, [7]), (.ifCond .lt 8, 0, [92]), (.iload 8, 0, [8]), (.ifCond .ge 60, 0, [149]), (.nop, 0, [92])]
def s360_92 : List E := [(.aload_n 0, 0, [0]), (.bipush 31, 31, []), (.iload_n 3, 0, [3]), (.ifCond .ge 7, 0, [103]), (.iconst 0, 0, []), (.goto 44, 0, [144])]
def s360_103 : List E := [(.iload 4, 0, [4]), (.ifCond .ge 7, 0, [112]), (.iconst 1, 1, []), (.goto 35, 0, [144])]
def s360_112 : List E := [(.iload 5, 0, [5]), (.ifCond .ge 7, 0, [121]), (.iconst 2, 2, []), (.goto 26, 0, [144])]
def s360_121 : List E := [(.iload_n 2, 0, [2]), (.ifCond .eq 12, 0, [134]), (.iload 6, 0, [6]), (.ifCond .ge 7, 0, [134]), (.iconst 3, 3, []), (.goto 13, 0, [144])]
def s360_134 : List E := [(.iload 7, 0, [7]), (.ifCond .ge 7, 0, [143]), (.iconst 4, 4, []), (.goto 4, 0, [144])]
def s360_143 : List E := [(.iconst 5, 5, []), (.nop, 0, [144])]
def s360_144 : List E := [(.invokevirtual 357, 0, [243, 16, 33, 124, 0, 3, 0, 0]), (.pop, 0, []), (.return_, 0, [])]
def s360_149 : List E := [(.aload_n 0, 0, [0]), (.getfield 126, 36, [16, 51, 81, 1]), (.iload_n 3, 0, [3]), (.iaload, 0, []), (.bipush 54, 54, []), (.if_icmp .ne 28, 0, [185]), (.aload_n 0, 0, [0]), (.iload_n 3, 0, [3]), (.bipush 12, 12, []), (.invokevirtual 776, 0, [361, 16, 33, 80, 0, 5, 0, 0]), (.ldc2_w 652, 1594834165, []), (.lcmp, 0, []), (.ifCond .ne 14, 0, [185]), (.aload_n 0, 0, [0]), (.iload_n 3, 0, [3]), (.bipush 50, 50, []), (.invokevirtual 615, 0, [362, 16, 33, 102, 0, 0, 0, 0]), (.iconst 1, 1, []), (.if_icmp .le 47, 0, [229]), (.nop, 0, [185])]
def s360_185 : List E := [(.aload_n 0, 0, [0]), (.bipush 32, 32, []), (.aload_n 0, 0, [0]), (.getfield 126, 36, [16, 51, 81, 1]), (.iload_n 3, 0, [3]), (.iaload, 0, []), (.bipush 54, 54, []), (.if_icmp .eq 7, 0, [203]), (.iconst 0, 0, []), (.goto 24, 0, [224])]
def s360_203 : List E := [(.aload_n 0, 0, [0]), (.iload_n 3, 0, [3]), (.bipush 12, 12, []), (.invokevirtual 776, 0, [361, 16, 33, 80, 0, 5, 0, 0]), (.ldc2_w 652, 1594834165, []), (.lcmp, 0, []), (.ifCond .eq 8, 0, [222]), (.bipush 12, 12, []), (.goto 5, 0, [224])]
def s360_222 : List E := [(.bipush 50, 50, []), (.nop, 0, [224])]
def s360_224 : List E := [(.invokevirtual 357, 0, [243, 16, 33, 124, 0, 3, 0, 0]), (.pop, 0, []), (.return_, 0, [])]
def s360_229 : List E := [(.aload_n 0, 0, [0]), (.aload_n 0, 0, [0]), (.iload_n 3, 0, [3]), (.bipush 50, 50, []), (.invokevirtual 615, 0, [362, 16, 33, 102, 0, 0, 0, 0]), (.putfield 779, 0, [16, 72, 0]), (.aload_n 0, 0, [0]), (.getfield 126, 36, [16, 51, 81, 1]), (.iload 4, 0, [4]), (.iaload, 0, []), (.bipush 6, 6, []), (.if_icmp .ge 12, 0, [261]), (.aload_n 0, 0, [0]), (.bipush 33, 33, []), (.iconst 0, 0, []), (.invokevirtual 357, 0, [243, 16, 33, 124, 0, 3, 0, 0]), (.pop, 0, []), (.return_, 0, [])]
def s360_261 : List E := [(.aload_n 0, 0, [0]), (.aload_n 0, 0, [0]), (.iload 4, 0, [4]), (.iconst 4, 4, []), (.invokevirtual 615, 0, [362, 16, 33, 102, 0, 0, 0, 0]), (.putfield 782, 0, [16, 70, 0]), (.aload_n 0, 0, [0]), (.getfield 782, 0, [16, 70, 0]), (.iconst 1, 1, []), (.if_icmp .lt 12, 0, [289]), (.aload_n 0, 0, [0]), (.getfield 782, 0, [16, 70, 0]), (.bipush 64, 64, []), (.if_icmp .le 12, 0, [298]), (.nop, 0, [289])]
def s360_289 : List E := [(.aload_n 0, 0, [0]), (.bipush 33, 33, []), (.iconst 4, 4, []), (.invokevirtual 357, 0, [243, 16, 33, 124, 0, 3, 0, 0]), (.pop, 0, []), (.return_, 0, [])]
def s360_298 : List E := [(.aload_n 0, 0, [0]), (.getfield 126, 36, [16, 51, 81, 1]), (.iload 5, 0, [5]), (.iaload, 0, []), (.bipush 36, 36, []), (.if_icmp .eq 12, 0, [319]), (.aload_n 0, 0, [0]), (.bipush 34, 34, []), (.iconst 0, 0, []), (.invokevirtual 357, 0, [243, 16, 33, 124, 0, 3, 0, 0]), (.pop, 0, []), (.return_, 0, [])]
def s360_319 : List E := [(.aload_n 0, 0, [0]), (.aload_n 0, 0, [0]), (.iload 5, 0, [5]), (.bipush 34, 34, []), (.invokevirtual 615, 0, [362, 16, 33, 102, 0, 0, 0, 0]), (.putfield 785, 0, [16, 71, 0]), (.aload_n 0, 0, [0]), (.getfield 785, 0, [16, 71, 0]), (.iconst 1, 1, []), (.if_icmp .lt 14, 0, [350]), (.aload_n 0, 0, [0]), (.getfield 785, 0, [16, 71, 0]), (.aload_n 0, 0, [0]), (.getfield 782, 0, [16, 70, 0]), (.if_icmp .le 13, 0, [360]), (.nop, 0, [350])]
def s360_350 : List E := [(.aload_n 0, 0, [0]), (.bipush 34, 34, []), (.bipush 34, 34, []), (.invokevirtual 357, 0, [243, 16, 33, 124, 0, 3, 0, 0]), (.pop, 0, []), (.return_, 0, [])]
def s360_360 : List E := [(.iload_n 2, 0, [2]), (.ifCond .eq 40, 0, [401]), (.aload_n 0, 0, [0]), (.getfield 126, 36, [16, 51, 81, 1]), (.iload 6, 0, [6]), (.iaload, 0, []), (.iconst 4, 4, []), (.aload_n 0, 0, [0]), (.getfield 785, 0, [16, 71, 0]), (.imul, 0, []), (.iconst 2, 2, []), (.aload_n 0, 0, [0]), (.getfield 782, 0, [16, 70, 0]), (.aload_n 0, 0, [0]), (.getfield 785, 0, [16, 71, 0]), (.isub, 0, []), (.imul, 0, []), (.iadd, 0, []), (.if_icmp .eq 12, 0, [401]), (.aload_n 0, 0, [0]), (.bipush 35, 35, []), (.iconst 0, 0, []), (.invokevirtual 357, 0, [243, 16, 33, 124, 0, 3, 0, 0]), (.pop, 0, []), (.return_, 0, [])]
def s360_401 : List E := [(.aload_n 0, 0, [0]), (.getfield 126, 36, [16, 51, 81, 1]), (.iload 7, 0, [7]), (.iaload, 0, []), (.aload_n 0, 0, [0]), (.getfield 782, 0, [16, 70, 0]), (.iconst 1, 1, []), (.iadd, 0, []), (.aload_n 0, 0, [0]), (.getfield 779, 0, [16, 72, 0]), (.ifCond .ne 7, 0, [425]), (.iconst 2, 2, []), (.goto 4, 0, [426])]
def s360_425 : List E := [(.iconst 4, 4, []), (.nop, 0, [426])]
def s360_426 : List E := [(.imul, 0, []), (.if_icmp .eq 12, 0, [439]), (.aload_n 0, 0, [0]), (.bipush 36, 36, []), (.iconst 0, 0, []), (.invokevirtual 357, 0, [243, 16, 33, 124, 0, 3, 0, 0]), (.pop, 0, []), (.return_, 0, [])]
def s360_439 : List E := [(.iconst 0, 0, []), (.istore 9, 0, [9]), (.nop, 0, [442])]
def s360_442 : List E := [(.iload 9, 0, [9]), (.aload_n 0, 0, [0]), (.getfield 782, 0, [16, 70, 0]), (.if_icmp .gt 108, 0, [556]), (.aload_n 0, 0, [0]), (.iload 7, 0, [7]), (.aload_n 0, 0, [0]), (.getfield 779, 0, [16, 72, 0]), (.iload 9, 0, [9]), (.invokevirtual 788, 0, [363, 16, 33, 57, 0, 5, 0, 0, 0]), (.lstore 10, 0, [10]), (.iload 9, 0, [9]), (.ifCond .ne 18, 0, [485]), (.lload 10, 0, [10]), (.lconst 0, 0, []), (.lcmp, 0, []), (.ifCond .eq 7, 0, [481]), (.iconst 1, 1, []), (.goto 55, 0, [533])]
def s360_481 : List E := [(.iconst 0, 0, []), (.goto 51, 0, [533])]
def s360_485 : List E := [(.lload 10, 0, [10]), (.aload_n 0, 0, [0]), (.iload 7, 0, [7]), (.aload_n 0, 0, [0]), (.getfield 779, 0, [16, 72, 0]), (.iload 9, 0, [9]), (.iconst 1, 1, []), (.isub, 0, []), (.invokevirtual 788, 0, [363, 16, 33, 57, 0, 5, 0, 0, 0]), (.lcmp, 0, []), (.ifCond .lt 26, 0, [528]), (.iload 9, 0, [9]), (.aload_n 0, 0, [0]), (.getfield 782, 0, [16, 70, 0]), (.if_icmp .ne 21, 0, [532]), (.lload 10, 0, [10]), (.aload_n 0, 0, [0]), (.getfield 126, 36, [16, 51, 81, 1]), (.iload 8, 0, [8]), (.iaload, 0, []), (.i2l, 0, []), (.lcmp, 0, []), (.ifCond .eq 7, 0, [532]), (.nop, 0, [528])]
def s360_528 : List E := [(.iconst 1, 1, []), (.goto 4, 0, [533])]
def s360_532 : List E := [(.iconst 0, 0, []), (.nop, 0, [533])]
def s360_533 : List E := [(.istore 12, 0, [12]), (.iload 12, 0, [12]), (.ifCond .eq 13, 0, [550]), (.aload_n 0, 0, [0]), (.bipush 36, 36, []), (.iload 9, 0, [9]), (.invokevirtual 357, 0, [243, 16, 33, 124, 0, 3, 0, 0]), (.pop, 0, []), (.return_, 0, [])]
def s360_550 : List E := [(.iinc 9 1, 1, [9]), (.goto (-111), 0, [442])]
def s360_556 : List E := [(.iconst 0, 0, []), (.istore 9, 0, [9]), (.nop, 0, [559])]
def s360_559 : List E := [(.iload 9, 0, [9]), (.aload_n 0, 0, [0]), (.getfield 782, 0, [16, 70, 0]), (.if_icmp .ge 60, 0, [625]), (.aload_n 0, 0, [0]), (.iload 7, 0, [7]), (.aload_n 0, 0, [0]), (.getfield 779, 0, [16, 72, 0]), (.iload 9, 0, [9]), (.invokevirtual 788, 0, [363, 16, 33, 57, 0, 5, 0, 0, 0]), (.l2i, 0, []), (.istore 10, 0, [10]), (.aload_n 0, 0, [0]), (.iload 8, 0, [8]), (.iload 10, 0, [10]), (.aload_n 0, 0, [0]), (.iload 7, 0, [7]), (.aload_n 0, 0, [0]), (.getfield 779, 0, [16, 72, 0]), (.iload 9, 0, [9]), (.iconst 1, 1, []), (.iadd, 0, []), (.invokevirtual 788, 0, [363, 16, 33, 57, 0, 5, 0, 0, 0]), (.l2i, 0, []), (.invokevirtual 792, 0, [364, 16, 33, 8, 0, 3, 0, 0, 0]), (.ifCond .ne 13, 0, [619]), (.aload_n 0, 0, [0]), (.bipush 37, 37, []), (.iload 9, 0, [9]), (.invokevirtual 357, 0, [243, 16, 33, 124, 0, 3, 0, 0]), (.pop, 0, []), (.return_, 0, [])]
def s360_619 : List E := [(.iinc 9 1, 1, [9]), (.goto (-63), 0, [559])]
def s360_625 : List E := [(.return_, 0, [])]
def cd360 : List (Nat × List E) := [(0, s360_0), (82, s360_82), (92, s360_92), (103, s360_103), (112, s360_112), (121, s360_121), (134, s360_134), (143, s360_143), (144, s360_144), (149, s360_149), (185, s360_185), (203, s360_203), (222, s360_222), (224, s360_224), (229, s360_229), (261, s360_261), (289, s360_289), (298, s360_298), (319, s360_319), (350, s360_350), (360, s360_360), (401, s360_401), (425, s360_425), (426, s360_426), (439, s360_439), (442, s360_442), (481, s360_481), (485, s360_485), (528, s360_528), (532, s360_532), (533, s360_533), (550, s360_550), (556, s360_556), (559, s360_559), (619, s360_619), (625, s360_625)]
theorem l360_0 : lkc cd360 0 = s360_0 := rfl
theorem l360_82 : lkc cd360 82 = s360_82 := rfl
theorem l360_92 : lkc cd360 92 = s360_92 := rfl
theorem l360_103 : lkc cd360 103 = s360_103 := rfl
theorem l360_112 : lkc cd360 112 = s360_112 := rfl
theorem l360_121 : lkc cd360 121 = s360_121 := rfl
theorem l360_134 : lkc cd360 134 = s360_134 := rfl
theorem l360_143 : lkc cd360 143 = s360_143 := rfl
theorem l360_144 : lkc cd360 144 = s360_144 := rfl
theorem l360_149 : lkc cd360 149 = s360_149 := rfl
theorem l360_185 : lkc cd360 185 = s360_185 := rfl
theorem l360_203 : lkc cd360 203 = s360_203 := rfl
theorem l360_222 : lkc cd360 222 = s360_222 := rfl
theorem l360_224 : lkc cd360 224 = s360_224 := rfl
theorem l360_229 : lkc cd360 229 = s360_229 := rfl
theorem l360_261 : lkc cd360 261 = s360_261 := rfl
theorem l360_289 : lkc cd360 289 = s360_289 := rfl
theorem l360_298 : lkc cd360 298 = s360_298 := rfl
theorem l360_319 : lkc cd360 319 = s360_319 := rfl
theorem l360_350 : lkc cd360 350 = s360_350 := rfl
theorem l360_360 : lkc cd360 360 = s360_360 := rfl
theorem l360_401 : lkc cd360 401 = s360_401 := rfl
theorem l360_425 : lkc cd360 425 = s360_425 := rfl
theorem l360_426 : lkc cd360 426 = s360_426 := rfl
theorem l360_439 : lkc cd360 439 = s360_439 := rfl
theorem l360_442 : lkc cd360 442 = s360_442 := rfl
theorem l360_481 : lkc cd360 481 = s360_481 := rfl
theorem l360_485 : lkc cd360 485 = s360_485 := rfl
theorem l360_528 : lkc cd360 528 = s360_528 := rfl
theorem l360_532 : lkc cd360 532 = s360_532 := rfl
theorem l360_533 : lkc cd360 533 = s360_533 := rfl
theorem l360_550 : lkc cd360 550 = s360_550 := rfl
theorem l360_556 : lkc cd360 556 = s360_556 := rfl
theorem l360_559 : lkc cd360 559 = s360_559 := rfl
theorem l360_619 : lkc cd360 619 = s360_619 := rfl
theorem l360_625 : lkc cd360 625 = s360_625 := rfl
theorem k360 : chkM 360 16 true cd360 = true := by decide +kernel
/- FontHouseModel.fourOf(II)J -/
def s361_0 : List E := [(.aload_n 0, 0, [0]), (.iload_n 1, 0, [1]), (.iload_n 2, 0, [2]), (.invokevirtual 615, 0, [362, 16, 33, 8, 0, 0, 0, 0]), (.i2l, 0, []), (.bipush 16, 16, []), (.lshl, 0, []), (.aload_n 0, 0, [0]), (.iload_n 1, 0, [1]), (.iload_n 2, 0, [2]), (.iconst 2, 2, []), (.iadd, 0, []), (.invokevirtual 615, 0, [362, 16, 33, 8, 0, 0, 0, 0]), (.i2l, 0, []), (.lor, 0, []), (.lreturn, 0, [])]
def cd361 : List (Nat × List E) := [(0, s361_0)]
theorem l361_0 : lkc cd361 0 = s361_0 := rfl
theorem k361 : chkM 361 16 true cd361 = true := by decide +kernel
/- FontHouseModel.two(II)I -/
def s362_0 : List E := [(.aload_n 0, 0, [0]), (.iload_n 1, 0, [1]), (.iload_n 2, 0, [2]), (.invokevirtual 612, 0, [344, 16, 33, 8, 0, 0, 0, 0]), (.bipush 8, 8, []), (.ishl, 0, []), (.aload_n 0, 0, [0]), (.iload_n 1, 0, [1]), (.iload_n 2, 0, [2]), (.iconst 1, 1, []), (.iadd, 0, []), (.invokevirtual 612, 0, [344, 16, 33, 8, 0, 0, 0, 0]), (.ior, 0, []), (.ireturn, 0, [])]
def cd362 : List (Nat × List E) := [(0, s362_0)]
theorem l362_0 : lkc cd362 0 = s362_0 := rfl
theorem k362 : chkM 362 16 true cd362 = true := by decide +kernel
/- FontHouseModel.locaAt(III)J -/
def s363_0 : List E := [(.iload_n 2, 0, [2]), (.ifCond .ne 19, 0, [20]), (.ldc2_w 529, 2, []), (.aload_n 0, 0, [0]), (.iload_n 1, 0, [1]), (.iconst 2, 2, []), (.iload_n 3, 0, [3]), (.imul, 0, []), (.invokevirtual 615, 0, [362, 16, 33, 30, 0, 0, 0, 0]), (.i2l, 0, []), (.lmul, 0, []), (.goto 11, 0, [28])]
def s363_20 : List E := [(.aload_n 0, 0, [0]), (.iload_n 1, 0, [1]), (.iconst 4, 4, []), (.iload_n 3, 0, [3]), (.imul, 0, []), (.invokevirtual 776, 0, [361, 16, 33, 8, 0, 5, 0, 0]), (.nop, 0, [28])]
def s363_28 : List E := [(.lreturn, 0, [])]
def cd363 : List (Nat × List E) := [(0, s363_0), (20, s363_20), (28, s363_28)]
theorem l363_0 : lkc cd363 0 = s363_0 := rfl
theorem l363_20 : lkc cd363 20 = s363_20 := rfl
theorem l363_28 : lkc cd363 28 = s363_28 := rfl
theorem k363 : chkM 363 16 true cd363 = true := by decide +kernel
/- FontHouseModel.record(III)Z -/
def s364_0 : List E := [(.aload_n 0, 0, [0]), (.invokevirtual 826, 0, [365, 16, 33, 101, 0, 100]), (.iload_n 2, 0, [2]), (.iload_n 3, 0, [3]), (.if_icmp .ne 5, 0, [11]), (.iconst 1, 1, []), (.ireturn, 0, [1])]
def s364_11 : List E := [(.aload_n 0, 0, [0]), (.iload_n 1, 0, [1]), (.putfield 805, 0, [16, 92, 0]), (.aload_n 0, 0, [0]), (.iload_n 2, 0, [2]), (.putfield 802, 0, [16, 93, 0]), (.aload_n 0, 0, [0]), (.iload_n 3, 0, [3]), (.putfield 799, 0, [16, 94, 0]), (.aload_n 0, 0, [0]), (.bipush 10, 10, []), (.invokevirtual 829, 0, [366, 16, 33, 101, 0, 3, 0]), (.ifCond .ne 5, 0, [37]), (.iconst 0, 0, []), (.ireturn, 0, [1])]
def s364_37 : List E := [(.aload_n 0, 0, [0]), (.aload_n 0, 0, [0]), (.invokevirtual 832, 0, [367, 16, 33, 58, 0, 0]), (.i2s, 0, []), (.putfield 808, 0, [16, 73, 0]), (.iconst 0, 0, []), (.istore 4, 0, [4]), (.nop, 0, [49])]
def s364_49 : List E := [(.iload 4, 0, [4]), (.iconst 4, 4, []), (.if_icmp .ge 21, 0, [73]), (.aload_n 0, 0, [0]), (.getfield 175, 52, [16, 79, 81, 1]), (.iload 4, 0, [4]), (.aload_n 0, 0, [0]), (.invokevirtual 832, 0, [367, 16, 33, 58, 0, 0]), (.i2s, 0, []), (.iastore, 0, []), (.iinc 4 1, 1, [4]), (.goto (-21), 0, [49])]
def s364_73 : List E := [(.aload_n 0, 0, [0]), (.getfield 808, 0, [16, 73, 0]), (.ifCond .eq 20, 0, [97]), (.aload_n 0, 0, [0]), (.getfield 808, 0, [16, 73, 0]), (.iconst (-1), -1, []), (.if_icmp .lt 12, 0, [97]), (.aload_n 0, 0, [0]), (.getfield 808, 0, [16, 73, 0]), (.bipush 32, 32, []), (.if_icmp .le 5, 0, [99]), (.nop, 0, [97])]
def s364_97 : List E := [(.iconst 0, 0, []), (.ireturn, 0, [1])]
def s364_99 : List E := [(.aload_n 0, 0, [0]), (.getfield 808, 0, [16, 73, 0]), (.ifCond .le 10, 0, [113]), (.aload_n 0, 0, [0]), (.invokevirtual 835, 0, [368, 16, 33, 8, 0, 3]), (.goto 7, 0, [117])]
def s364_113 : List E := [(.aload_n 0, 0, [0]), (.invokevirtual 838, 0, [373, 16, 33, 12, 0, 3]), (.nop, 0, [117])]
def s364_117 : List E := [(.istore 4, 0, [4]), (.iload 4, 0, [4]), (.ifCond .eq 16, 0, [137]), (.aload_n 0, 0, [0]), (.getfield 799, 0, [16, 94, 0]), (.aload_n 0, 0, [0]), (.getfield 802, 0, [16, 93, 0]), (.isub, 0, []), (.iconst 3, 3, []), (.if_icmp .le 5, 0, [139]), (.nop, 0, [137])]
def s364_137 : List E := [(.iconst 0, 0, []), (.ireturn, 0, [1])]
def s364_139 : List E := [(.aload_n 0, 0, [0]), (.getfield 802, 0, [16, 93, 0]), (.aload_n 0, 0, [0]), (.getfield 799, 0, [16, 94, 0]), (.if_icmp .ge 12, 0, [159]), (.aload_n 0, 0, [0]), (.invokevirtual 841, 0, [370, 16, 33, 80, 0, 0]), (.ifCond .eq (-15), 0, [139]), (.iconst 0, 0, []), (.ireturn, 0, [1])]
def s364_159 : List E := [(.iconst 1, 1, []), (.ireturn, 0, [1])]
def cd364 : List (Nat × List E) := [(0, s364_0), (11, s364_11), (37, s364_37), (49, s364_49), (73, s364_73), (97, s364_97), (99, s364_99), (113, s364_113), (117, s364_117), (137, s364_137), (139, s364_139), (159, s364_159)]
theorem l364_0 : lkc cd364 0 = s364_0 := rfl
theorem l364_11 : lkc cd364 11 = s364_11 := rfl
theorem l364_37 : lkc cd364 37 = s364_37 := rfl
theorem l364_49 : lkc cd364 49 = s364_49 := rfl
theorem l364_73 : lkc cd364 73 = s364_73 := rfl
theorem l364_97 : lkc cd364 97 = s364_97 := rfl
theorem l364_99 : lkc cd364 99 = s364_99 := rfl
theorem l364_113 : lkc cd364 113 = s364_113 := rfl
theorem l364_117 : lkc cd364 117 = s364_117 := rfl
theorem l364_137 : lkc cd364 137 = s364_137 := rfl
theorem l364_139 : lkc cd364 139 = s364_139 := rfl
theorem l364_159 : lkc cd364 159 = s364_159 := rfl
theorem k364 : chkM 364 16 true cd364 = true := by decide +kernel
/- FontHouseModel.empty()V -/
def s365_0 : List E := [(.aload_n 0, 0, [0]), (.iconst 0, 0, []), (.putfield 808, 0, [16, 73, 0]), (.aload_n 0, 0, [0]), (.iconst 0, 0, []), (.putfield 811, 0, [16, 74, 0]), (.aload_n 0, 0, [0]), (.iconst 0, 0, []), (.putfield 814, 0, [16, 75, 0]), (.aload_n 0, 0, [0]), (.iconst 0, 0, []), (.putfield 817, 0, [16, 76, 0]), (.aload_n 0, 0, [0]), (.iconst 0, 0, []), (.putfield 820, 0, [16, 77, 0]), (.aload_n 0, 0, [0]), (.iconst 0, 0, []), (.putfield 823, 0, [16, 78, 3]), (.iconst 0, 0, []), (.istore_n 1, 0, [1]), (.nop, 0, [32])]
def s365_32 : List E := [(.iload_n 1, 0, [1]), (.iconst 4, 4, []), (.if_icmp .ge 16, 0, [50]), (.aload_n 0, 0, [0]), (.getfield 175, 52, [16, 79, 81, 1]), (.iload_n 1, 0, [1]), (.iconst 0, 0, []), (.iastore, 0, []), (.iinc 1 1, 1, [1]), (.goto (-15), 0, [32])]
def s365_50 : List E := [(.return_, 0, [])]
def cd365 : List (Nat × List E) := [(0, s365_0), (32, s365_32), (50, s365_50)]
theorem l365_0 : lkc cd365 0 = s365_0 := rfl
theorem l365_32 : lkc cd365 32 = s365_32 := rfl
theorem l365_50 : lkc cd365 50 = s365_50 := rfl
theorem k365 : chkM 365 16 true cd365 = true := by decide +kernel
/- FontHouseModel.hasBytes(I)Z -/
def s366_0 : List E := [(.aload_n 0, 0, [0]), (.getfield 799, 0, [16, 94, 0]), (.aload_n 0, 0, [0]), (.getfield 802, 0, [16, 93, 0]), (.isub, 0, []), (.iload_n 1, 0, [1]), (.if_icmp .lt 7, 0, [17]), (.iconst 1, 1, []), (.goto 4, 0, [18])]
def s366_17 : List E := [(.iconst 0, 0, []), (.nop, 0, [18])]
def s366_18 : List E := [(.ireturn, 0, [1])]
def cd366 : List (Nat × List E) := [(0, s366_0), (17, s366_17), (18, s366_18)]
theorem l366_0 : lkc cd366 0 = s366_0 := rfl
theorem l366_17 : lkc cd366 17 = s366_17 := rfl
theorem l366_18 : lkc cd366 18 = s366_18 := rfl
theorem k366 : chkM 366 16 true cd366 = true := by decide +kernel
/- FontHouseModel.nextTwo()I -/
def s367_0 : List E := [(.aload_n 0, 0, [0]), (.dup, 0, []), (.getfield 802, 0, [16, 93, 0]), (.iconst 2, 2, []), (.iadd, 0, []), (.putfield 802, 0, [16, 93, 0]), (.aload_n 0, 0, [0]), (.aload_n 0, 0, [0]), (.getfield 805, 0, [16, 92, 0]), (.aload_n 0, 0, [0]), (.getfield 802, 0, [16, 93, 0]), (.iconst 2, 2, []), (.isub, 0, []), (.invokevirtual 615, 0, [362, 16, 33, 8, 0, 0, 0, 0]), (.ireturn, 0, [])]
def cd367 : List (Nat × List E) := [(0, s367_0)]
theorem l367_0 : lkc cd367 0 = s367_0 := rfl
theorem k367 : chkM 367 16 true cd367 = true := by decide +kernel
/- FontHouseModel.outline()Z -/
def s368_0 : List E := [(.aload_n 0, 0, [0]), (.aload_n 0, 0, [0]), (.getfield 808, 0, [16, 73, 0]), (.putfield 811, 0, [16, 74, 0]), (.aload_n 0, 0, [0]), (.iconst 2, 2, []), (.aload_n 0, 0, [0]), (.getfield 811, 0, [16, 74, 0]), (.imul, 0, []), (.invokevirtual 829, 0, [366, 16, 33, 79, 0, 3, 0]), (.ifCond .ne 5, 0, [23]), (.iconst 0, 0, []), (.ireturn, 0, [1])]
def s368_23 : List E := [(.iconst (-1), -1, []), (.istore_n 1, 0, [1]), (.iconst 0, 0, []), (.istore_n 2, 0, [2]), (.nop, 0, [27])]
def s368_27 : List E := [(.iload_n 2, 0, [2]), (.aload_n 0, 0, [0]), (.getfield 811, 0, [16, 74, 0]), (.if_icmp .ge 50, 0, [82]), (.aload_n 0, 0, [0]), (.getfield 178, 53, [16, 80, 81, 1]), (.iload_n 2, 0, [2]), (.aload_n 0, 0, [0]), (.invokevirtual 832, 0, [367, 16, 33, 36, 0, 0]), (.iastore, 0, []), (.aload_n 0, 0, [0]), (.getfield 178, 53, [16, 80, 81, 1]), (.iload_n 2, 0, [2]), (.iaload, 0, []), (.iload_n 1, 0, [1]), (.if_icmp .le 15, 0, [67]), (.aload_n 0, 0, [0]), (.getfield 178, 53, [16, 80, 81, 1]), (.iload_n 2, 0, [2]), (.iaload, 0, []), (.sipush 255, 255, []), (.if_icmp .le 5, 0, [69]), (.nop, 0, [67])]
def s368_67 : List E := [(.iconst 0, 0, []), (.ireturn, 0, [1])]
def s368_69 : List E := [(.aload_n 0, 0, [0]), (.getfield 178, 53, [16, 80, 81, 1]), (.iload_n 2, 0, [2]), (.iaload, 0, []), (.istore_n 1, 0, [1]), (.iinc 2 1, 1, [2]), (.goto (-52), 0, [27])]
def s368_82 : List E := [(.aload_n 0, 0, [0]), (.iload_n 1, 0, [1]), (.iconst 1, 1, []), (.iadd, 0, []), (.putfield 814, 0, [16, 75, 0]), (.aload_n 0, 0, [0]), (.invokevirtual 844, 0, [369, 16, 33, 15, 0, 3]), (.ifCond .eq 42, 0, [135]), (.aload_n 0, 0, [0]), (.invokevirtual 847, 0, [371, 16, 33, 34, 0, 3]), (.ifCond .eq 35, 0, [135]), (.aload_n 0, 0, [0]), (.iconst 2, 2, []), (.bipush 16, 16, []), (.aload_n 0, 0, [0]), (.getfield 181, 54, [16, 81, 81, 1]), (.invokevirtual 850, 0, [372, 16, 33, 8, 0, 3, 46, 0, 0]), (.ifCond .eq 21, 0, [135]), (.aload_n 0, 0, [0]), (.iconst 4, 4, []), (.bipush 32, 32, []), (.aload_n 0, 0, [0]), (.getfield 184, 55, [16, 82, 81, 1]), (.invokevirtual 850, 0, [372, 16, 33, 8, 0, 3, 46, 0, 0]), (.ifCond .eq 7, 0, [135]), (.iconst 1, 1, []), (.goto 4, 0, [136])]
def s368_135 : List E := [(.iconst 0, 0, []), (.nop, 0, [136])]
def s368_136 : List E := [(.ireturn, 0, [1])]
def cd368 : List (Nat × List E) := [(0, s368_0), (23, s368_23), (27, s368_27), (67, s368_67), (69, s368_69), (82, s368_82), (135, s368_135), (136, s368_136)]
theorem l368_0 : lkc cd368 0 = s368_0 := rfl
theorem l368_23 : lkc cd368 23 = s368_23 := rfl
theorem l368_27 : lkc cd368 27 = s368_27 := rfl
theorem l368_67 : lkc cd368 67 = s368_67 := rfl
theorem l368_69 : lkc cd368 69 = s368_69 := rfl
theorem l368_82 : lkc cd368 82 = s368_82 := rfl
theorem l368_135 : lkc cd368 135 = s368_135 := rfl
theorem l368_136 : lkc cd368 136 = s368_136 := rfl
theorem k368 : chkM 368 16 true cd368 = true := by decide +kernel
/- FontHouseModel.codes()Z -/
def s369_0 : List E := [(.aload_n 0, 0, [0]), (.iconst 2, 2, []), (.invokevirtual 829, 0, [366, 16, 33, 51, 0, 3, 0]), (.ifCond .ne 5, 0, [10]), (.iconst 0, 0, []), (.ireturn, 0, [1])]
def s369_10 : List E := [(.aload_n 0, 0, [0]), (.aload_n 0, 0, [0]), (.invokevirtual 832, 0, [367, 16, 33, 8, 0, 0]), (.putfield 820, 0, [16, 77, 0]), (.aload_n 0, 0, [0]), (.getfield 820, 0, [16, 77, 0]), (.sipush 300, 300, []), (.if_icmp .gt 14, 0, [39]), (.aload_n 0, 0, [0]), (.aload_n 0, 0, [0]), (.getfield 820, 0, [16, 77, 0]), (.invokevirtual 829, 0, [366, 16, 33, 51, 0, 3, 0]), (.ifCond .ne 10, 0, [46]), (.nop, 0, [39])]
def s369_39 : List E := [(.aload_n 0, 0, [0]), (.iconst 0, 0, []), (.putfield 820, 0, [16, 77, 0]), (.iconst 0, 0, []), (.ireturn, 0, [1])]
def s369_46 : List E := [(.iconst 0, 0, []), (.istore_n 1, 0, [1]), (.nop, 0, [48])]
def s369_48 : List E := [(.iload_n 1, 0, [1]), (.aload_n 0, 0, [0]), (.getfield 820, 0, [16, 77, 0]), (.if_icmp .ge 20, 0, [73]), (.aload_n 0, 0, [0]), (.getfield 211, 64, [16, 91, 83, 1]), (.iload_n 1, 0, [1]), (.aload_n 0, 0, [0]), (.invokevirtual 841, 0, [370, 16, 33, 30, 0, 0]), (.i2b, 0, []), (.bastore, 0, [41]), (.iinc 1 1, 1, [1]), (.goto (-22), 0, [48])]
def s369_73 : List E := [(.iconst 1, 1, []), (.ireturn, 0, [1])]
def cd369 : List (Nat × List E) := [(0, s369_0), (10, s369_10), (39, s369_39), (46, s369_46), (48, s369_48), (73, s369_73)]
theorem l369_0 : lkc cd369 0 = s369_0 := rfl
theorem l369_10 : lkc cd369 10 = s369_10 := rfl
theorem l369_39 : lkc cd369 39 = s369_39 := rfl
theorem l369_46 : lkc cd369 46 = s369_46 := rfl
theorem l369_48 : lkc cd369 48 = s369_48 := rfl
theorem l369_73 : lkc cd369 73 = s369_73 := rfl
theorem k369 : chkM 369 16 true cd369 = true := by decide +kernel
/- FontHouseModel.nextByte()I -/
def s370_0 : List E := [(.aload_n 0, 0, [0]), (.dup, 0, []), (.getfield 802, 0, [16, 93, 0]), (.iconst 1, 1, []), (.iadd, 0, []), (.putfield 802, 0, [16, 93, 0]), (.aload_n 0, 0, [0]), (.aload_n 0, 0, [0]), (.getfield 805, 0, [16, 92, 0]), (.aload_n 0, 0, [0]), (.getfield 802, 0, [16, 93, 0]), (.iconst 1, 1, []), (.isub, 0, []), (.invokevirtual 612, 0, [344, 16, 33, 8, 0, 0, 0, 0]), (.ireturn, 0, [])]
def cd370 : List (Nat × List E) := [(0, s370_0)]
theorem l370_0 : lkc cd370 0 = s370_0 := rfl
theorem k370 : chkM 370 16 true cd370 = true := by decide +kernel
/- FontHouseModel.marks()Z -/
def s371_0 : List E := [(.iconst 0, 0, []), (.istore_n 1, 0, [1]), (.nop, 0, [2])]
def s371_2 : List E := [(.iload_n 1, 0, [1]), (.aload_n 0, 0, [0]), (.getfield 814, 0, [16, 75, 0]), (.if_icmp .ge 107, 0, [114]), (.aload_n 0, 0, [0]), (.iconst 1, 1, []), (.invokevirtual 829, 0, [366, 16, 33, 29, 0, 3, 0]), (.ifCond .ne 5, 0, [20]), (.iconst 0, 0, []), (.ireturn, 0, [1])]
def s371_20 : List E := [(.aload_n 0, 0, [0]), (.invokevirtual 841, 0, [370, 16, 33, 8, 0, 0]), (.istore_n 2, 0, [2]), (.iconst 0, 0, []), (.istore_n 3, 0, [3]), (.iload_n 2, 0, [2]), (.bipush 8, 8, []), (.iand, 0, []), (.ifCond .le 18, 0, [49]), (.aload_n 0, 0, [0]), (.iconst 1, 1, []), (.invokevirtual 829, 0, [366, 16, 33, 29, 0, 3, 0]), (.ifCond .ne 5, 0, [44]), (.iconst 0, 0, []), (.ireturn, 0, [1])]
def s371_44 : List E := [(.aload_n 0, 0, [0]), (.invokevirtual 841, 0, [370, 16, 33, 8, 0, 0]), (.istore_n 3, 0, [3]), (.nop, 0, [49])]
def s371_49 : List E := [(.iload_n 2, 0, [2]), (.bipush 127, 127, []), (.if_icmp .gt 15, 0, [67]), (.iload_n 1, 0, [1]), (.iconst 1, 1, []), (.iadd, 0, []), (.iload_n 3, 0, [3]), (.iadd, 0, []), (.aload_n 0, 0, [0]), (.getfield 814, 0, [16, 75, 0]), (.if_icmp .le 5, 0, [69]), (.nop, 0, [67])]
def s371_67 : List E := [(.iconst 0, 0, []), (.ireturn, 0, [1])]
def s371_69 : List E := [(.iconst 0, 0, []), (.istore 4, 0, [4]), (.nop, 0, [72])]
def s371_72 : List E := [(.iload 4, 0, [4]), (.iload_n 3, 0, [3]), (.if_icmp .gt 36, 0, [111]), (.aload_n 0, 0, [0]), (.getfield 190, 57, [16, 84, 81, 1]), (.iload_n 1, 0, [1]), (.iload_n 2, 0, [2]), (.iastore, 0, []), (.aload_n 0, 0, [0]), (.getfield 187, 56, [16, 83, 89, 1]), (.iload_n 1, 0, [1]), (.iload_n 2, 0, [2]), (.iconst 1, 1, []), (.iand, 0, []), (.ifCond .le 7, 0, [100]), (.iconst 1, 1, []), (.goto 4, 0, [101])]
def s371_100 : List E := [(.iconst 0, 0, []), (.nop, 0, [101])]
def s371_101 : List E := [(.bastore, 0, []), (.iinc 1 1, 1, [1]), (.iinc 4 1, 1, [4]), (.goto (-36), 0, [72])]
def s371_111 : List E := [(.goto (-109), 0, [2])]
def s371_114 : List E := [(.aload_n 0, 0, [0]), (.aload_n 0, 0, [0]), (.getfield 190, 57, [16, 84, 81, 1]), (.iconst 0, 0, []), (.iaload, 0, []), (.bipush 64, 64, []), (.iand, 0, []), (.ifCond .le 7, 0, [131]), (.iconst 1, 1, []), (.goto 4, 0, [132])]
def s371_131 : List E := [(.iconst 0, 0, []), (.nop, 0, [132])]
def s371_132 : List E := [(.putfield 823, 0, [16, 78, 3]), (.iconst 1, 1, []), (.ireturn, 0, [1])]
def cd371 : List (Nat × List E) := [(0, s371_0), (2, s371_2), (20, s371_20), (44, s371_44), (49, s371_49), (67, s371_67), (69, s371_69), (72, s371_72), (100, s371_100), (101, s371_101), (111, s371_111), (114, s371_114), (131, s371_131), (132, s371_132)]
theorem l371_0 : lkc cd371 0 = s371_0 := rfl
theorem l371_2 : lkc cd371 2 = s371_2 := rfl
theorem l371_20 : lkc cd371 20 = s371_20 := rfl
theorem l371_44 : lkc cd371 44 = s371_44 := rfl
theorem l371_49 : lkc cd371 49 = s371_49 := rfl
theorem l371_67 : lkc cd371 67 = s371_67 := rfl
theorem l371_69 : lkc cd371 69 = s371_69 := rfl
theorem l371_72 : lkc cd371 72 = s371_72 := rfl
theorem l371_100 : lkc cd371 100 = s371_100 := rfl
theorem l371_101 : lkc cd371 101 = s371_101 := rfl
theorem l371_111 : lkc cd371 111 = s371_111 := rfl
theorem l371_114 : lkc cd371 114 = s371_114 := rfl
theorem l371_131 : lkc cd371 131 = s371_131 := rfl
theorem l371_132 : lkc cd371 132 = s371_132 := rfl
theorem k371 : chkM 371 16 true cd371 = true := by decide +kernel
/- FontHouseModel.ways(II[I)Z -/
def s372_0 : List E := [(.iconst 0, 0, []), (.istore 4, 0, [4]), (.iconst 0, 0, []), (.istore 5, 0, [5]), (.nop, 0, [6])]
def s372_6 : List E := [(.iload 5, 0, [5]), (.aload_n 0, 0, [0]), (.getfield 814, 0, [16, 75, 0]), (.if_icmp .ge 138, 0, [150]), (.aload_n 0, 0, [0]), (.getfield 190, 57, [16, 84, 81, 1]), (.iload 5, 0, [5]), (.iaload, 0, []), (.iload_n 1, 0, [1]), (.iand, 0, []), (.ifCond .le 7, 0, [31]), (.iconst 1, 1, []), (.goto 4, 0, [32])]
def s372_31 : List E := [(.iconst 0, 0, []), (.nop, 0, [32])]
def s372_32 : List E := [(.istore 6, 0, [6]), (.aload_n 0, 0, [0]), (.getfield 190, 57, [16, 84, 81, 1]), (.iload 5, 0, [5]), (.iaload, 0, []), (.iload_n 2, 0, [2]), (.iand, 0, []), (.ifCond .le 7, 0, [50]), (.iconst 1, 1, []), (.goto 4, 0, [51])]
def s372_50 : List E := [(.iconst 0, 0, []), (.nop, 0, [51])]
def s372_51 : List E := [(.istore 7, 0, [7]), (.iload 6, 0, [6]), (.ifCond .eq 40, 0, [95]), (.aload_n 0, 0, [0]), (.iconst 1, 1, []), (.invokevirtual 829, 0, [366, 16, 33, 51, 0, 3, 0]), (.ifCond .ne 5, 0, [68]), (.iconst 0, 0, []), (.ireturn, 0, [1])]
def s372_68 : List E := [(.aload_n 0, 0, [0]), (.invokevirtual 841, 0, [370, 16, 33, 30, 0, 0]), (.istore 8, 0, [8]), (.iload 4, 0, [4]), (.iload 7, 0, [7]), (.ifCond .eq 8, 0, [86]), (.iload 8, 0, [8]), (.goto 6, 0, [89])]
def s372_86 : List E := [(.iload 8, 0, [8]), (.ineg, 0, []), (.nop, 0, [89])]
def s372_89 : List E := [(.iadd, 0, []), (.istore 4, 0, [4]), (.goto 28, 0, [120])]
def s372_95 : List E := [(.iload 7, 0, [7]), (.ifCond .ne 23, 0, [120]), (.aload_n 0, 0, [0]), (.iconst 2, 2, []), (.invokevirtual 829, 0, [366, 16, 33, 51, 0, 3, 0]), (.ifCond .ne 5, 0, [110]), (.iconst 0, 0, []), (.ireturn, 0, [1])]
def s372_110 : List E := [(.iload 4, 0, [4]), (.aload_n 0, 0, [0]), (.invokevirtual 832, 0, [367, 16, 33, 8, 0, 0]), (.i2s, 0, []), (.iadd, 0, []), (.istore 4, 0, [4]), (.nop, 0, [120])]
def s372_120 : List E := [(.iload 4, 0, [4]), (.sipush (-32768), -32768, []), (.if_icmp .lt 11, 0, [136]), (.iload 4, 0, [4]), (.sipush 32767, 32767, []), (.if_icmp .le 5, 0, [138]), (.nop, 0, [136])]
def s372_136 : List E := [(.iconst 0, 0, []), (.ireturn, 0, [1])]
def s372_138 : List E := [(.aload_n 3, 0, [3]), (.iload 5, 0, [5]), (.iload 4, 0, [4]), (.iastore, 0, []), (.iinc 5 1, 1, [5]), (.goto (-141), 0, [6])]
def s372_150 : List E := [(.iconst 1, 1, []), (.ireturn, 0, [1])]
def cd372 : List (Nat × List E) := [(0, s372_0), (6, s372_6), (31, s372_31), (32, s372_32), (50, s372_50), (51, s372_51), (68, s372_68), (86, s372_86), (89, s372_89), (95, s372_95), (110, s372_110), (120, s372_120), (136, s372_136), (138, s372_138), (150, s372_150)]
theorem l372_0 : lkc cd372 0 = s372_0 := rfl
theorem l372_6 : lkc cd372 6 = s372_6 := rfl
theorem l372_31 : lkc cd372 31 = s372_31 := rfl
theorem l372_32 : lkc cd372 32 = s372_32 := rfl
theorem l372_50 : lkc cd372 50 = s372_50 := rfl
theorem l372_51 : lkc cd372 51 = s372_51 := rfl
theorem l372_68 : lkc cd372 68 = s372_68 := rfl
theorem l372_86 : lkc cd372 86 = s372_86 := rfl
theorem l372_89 : lkc cd372 89 = s372_89 := rfl
theorem l372_95 : lkc cd372 95 = s372_95 := rfl
theorem l372_110 : lkc cd372 110 = s372_110 := rfl
theorem l372_120 : lkc cd372 120 = s372_120 := rfl
theorem l372_136 : lkc cd372 136 = s372_136 := rfl
theorem l372_138 : lkc cd372 138 = s372_138 := rfl
theorem l372_150 : lkc cd372 150 = s372_150 := rfl
theorem k372 : chkM 372 16 true cd372 = true := by decide +kernel
/- FontHouseModel.parts()Z -/
def s373_0 : List E := [(.aload_n 0, 0, [0]), (.invokevirtual 854, 0, [374, 16, 33, 8, 0, 3]), (.ifCond .eq 21, 0, [25]), (.aload_n 0, 0, [0]), (.invokevirtual 857, 0, [375, 16, 33, 77, 0, 3]), (.ifCond .eq 10, 0, [21]), (.aload_n 0, 0, [0]), (.invokevirtual 844, 0, [369, 16, 33, 13, 0, 3]), (.ifCond .eq 7, 0, [25]), (.nop, 0, [21])]
def s373_21 : List E := [(.iconst 1, 1, []), (.goto 4, 0, [26])]
def s373_25 : List E := [(.iconst 0, 0, []), (.nop, 0, [26])]
def s373_26 : List E := [(.ireturn, 0, [1])]
def cd373 : List (Nat × List E) := [(0, s373_0), (21, s373_21), (25, s373_25), (26, s373_26)]
theorem l373_0 : lkc cd373 0 = s373_0 := rfl
theorem l373_21 : lkc cd373 21 = s373_21 := rfl
theorem l373_25 : lkc cd373 25 = s373_25 := rfl
theorem l373_26 : lkc cd373 26 = s373_26 := rfl
theorem k373 : chkM 373 16 true cd373 = true := by decide +kernel
/- FontHouseModel.partRows()Z -/
def s374_0 : List E := [(.iconst 1, 1, []), (.istore_n 1, 0, [1]), (.nop, 0, [2])]
def s374_2 : List E := [(.iload_n 1, 0, [1]), (.ifCond .eq 301, 0, [304]), (.aload_n 0, 0, [0]), (.getfield 817, 0, [16, 76, 0]), (.bipush 16, 16, []), (.if_icmp .eq 11, 0, [23]), (.aload_n 0, 0, [0]), (.iconst 4, 4, []), (.invokevirtual 829, 0, [366, 16, 33, 51, 0, 3, 0]), (.ifCond .ne 5, 0, [25]), (.nop, 0, [23])]
def s374_23 : List E := [(.iconst 0, 0, []), (.ireturn, 0, [1])]
def s374_25 : List E := [(.aload_n 0, 0, [0]), (.invokevirtual 832, 0, [367, 16, 33, 8, 0, 0]), (.istore_n 2, 0, [2]), (.aload_n 0, 0, [0]), (.invokevirtual 832, 0, [367, 16, 33, 8, 0, 0]), (.istore_n 3, 0, [3]), (.iload_n 2, 0, [2]), (.sipush 200, 200, []), (.iand, 0, []), (.istore 4, 0, [4]), (.iload_n 3, 0, [3]), (.aload_n 0, 0, [0]), (.getfield 782, 0, [16, 70, 0]), (.if_icmp .ge 48, 0, [95]), (.iload 4, 0, [4]), (.ifCond .eq 25, 0, [77]), (.iload 4, 0, [4]), (.bipush 8, 8, []), (.if_icmp .eq 18, 0, [77]), (.iload 4, 0, [4]), (.bipush 64, 64, []), (.if_icmp .eq 11, 0, [77]), (.iload 4, 0, [4]), (.sipush 128, 128, []), (.if_icmp .ne 21, 0, [95]), (.nop, 0, [77])]
def s374_77 : List E := [(.aload_n 0, 0, [0]), (.iload_n 2, 0, [2]), (.iconst 1, 1, []), (.iand, 0, []), (.ifCond .le 7, 0, [88]), (.iconst 4, 4, []), (.goto 4, 0, [89])]
def s374_88 : List E := [(.iconst 2, 2, []), (.nop, 0, [89])]
def s374_89 : List E := [(.invokevirtual 829, 0, [366, 16, 33, 51, 0, 3, 0]), (.ifCond .ne 5, 0, [97]), (.nop, 0, [95])]
def s374_95 : List E := [(.iconst 0, 0, []), (.ireturn, 0, [1])]
def s374_97 : List E := [(.aload_n 0, 0, [0]), (.getfield 193, 58, [16, 85, 81, 1]), (.aload_n 0, 0, [0]), (.getfield 817, 0, [16, 76, 0]), (.iload_n 2, 0, [2]), (.iastore, 0, []), (.aload_n 0, 0, [0]), (.getfield 196, 59, [16, 86, 81, 1]), (.aload_n 0, 0, [0]), (.getfield 817, 0, [16, 76, 0]), (.iload_n 3, 0, [3]), (.iastore, 0, []), (.aload_n 0, 0, [0]), (.getfield 199, 60, [16, 87, 81, 1]), (.aload_n 0, 0, [0]), (.getfield 817, 0, [16, 76, 0]), (.iload_n 2, 0, [2]), (.iconst 1, 1, []), (.iand, 0, []), (.ifCond .le 11, 0, [139]), (.aload_n 0, 0, [0]), (.invokevirtual 832, 0, [367, 16, 33, 8, 0, 0]), (.i2s, 0, []), (.goto 8, 0, [144])]
def s374_139 : List E := [(.aload_n 0, 0, [0]), (.invokevirtual 841, 0, [370, 16, 33, 30, 0, 0]), (.i2b, 0, []), (.nop, 0, [144])]
def s374_144 : List E := [(.iastore, 0, []), (.aload_n 0, 0, [0]), (.getfield 202, 61, [16, 88, 81, 1]), (.aload_n 0, 0, [0]), (.getfield 817, 0, [16, 76, 0]), (.iload_n 2, 0, [2]), (.iconst 1, 1, []), (.iand, 0, []), (.ifCond .le 11, 0, [167]), (.aload_n 0, 0, [0]), (.invokevirtual 832, 0, [367, 16, 33, 8, 0, 0]), (.i2s, 0, []), (.goto 8, 0, [172])]
def s374_167 : List E := [(.aload_n 0, 0, [0]), (.invokevirtual 841, 0, [370, 16, 33, 30, 0, 0]), (.i2b, 0, []), (.nop, 0, [172])]
def s374_172 : List E := [(.iastore, 0, []), (.iload 4, 0, [4]), (.bipush 8, 8, []), (.if_icmp .ne 7, 0, [184]), (.iconst 1, 1, []), (.goto 27, 0, [208])]
def s374_184 : List E := [(.iload 4, 0, [4]), (.bipush 64, 64, []), (.if_icmp .ne 7, 0, [195]), (.iconst 2, 2, []), (.goto 16, 0, [208])]
def s374_195 : List E := [(.iload 4, 0, [4]), (.sipush 128, 128, []), (.if_icmp .ne 7, 0, [207]), (.iconst 4, 4, []), (.goto 4, 0, [208])]
def s374_207 : List E := [(.iconst 0, 0, []), (.nop, 0, [208])]
def s374_208 : List E := [(.istore 5, 0, [5]), (.aload_n 0, 0, [0]), (.iconst 2, 2, []), (.iload 5, 0, [5]), (.imul, 0, []), (.invokevirtual 829, 0, [366, 16, 33, 51, 0, 3, 0]), (.ifCond .ne 5, 0, [223]), (.iconst 0, 0, []), (.ireturn, 0, [1])]
def s374_223 : List E := [(.aload_n 0, 0, [0]), (.getfield 205, 62, [16, 89, 81, 1]), (.aload_n 0, 0, [0]), (.getfield 817, 0, [16, 76, 0]), (.iload 5, 0, [5]), (.iastore, 0, []), (.iconst 0, 0, []), (.istore 6, 0, [6]), (.nop, 0, [237])]
def s374_237 : List E := [(.iload 6, 0, [6]), (.iconst 4, 4, []), (.if_icmp .ge 38, 0, [278]), (.aload_n 0, 0, [0]), (.getfield 208, 63, [16, 90, 81, 1]), (.iconst 4, 4, []), (.aload_n 0, 0, [0]), (.getfield 817, 0, [16, 76, 0]), (.imul, 0, []), (.iload 6, 0, [6]), (.iadd, 0, []), (.iload 6, 0, [6]), (.iload 5, 0, [5]), (.if_icmp .ge 10, 0, [270]), (.aload_n 0, 0, [0]), (.invokevirtual 832, 0, [367, 16, 33, 8, 0, 0]), (.goto 4, 0, [271])]
def s374_270 : List E := [(.iconst 0, 0, []), (.nop, 0, [271])]
def s374_271 : List E := [(.iastore, 0, []), (.iinc 6 1, 1, [6]), (.goto (-38), 0, [237])]
def s374_278 : List E := [(.aload_n 0, 0, [0]), (.dup, 0, []), (.getfield 817, 0, [16, 76, 0]), (.iconst 1, 1, []), (.iadd, 0, []), (.putfield 817, 0, [16, 76, 0]), (.iload_n 2, 0, [2]), (.bipush 32, 32, []), (.iand, 0, []), (.ifCond .le 7, 0, [299]), (.iconst 1, 1, []), (.goto 4, 0, [300])]
def s374_299 : List E := [(.iconst 0, 0, []), (.nop, 0, [300])]
def s374_300 : List E := [(.istore_n 1, 0, [1]), (.goto (-299), 0, [2])]
def s374_304 : List E := [(.iconst 1, 1, []), (.ireturn, 0, [1])]
def cd374 : List (Nat × List E) := [(0, s374_0), (2, s374_2), (23, s374_23), (25, s374_25), (77, s374_77), (88, s374_88), (89, s374_89), (95, s374_95), (97, s374_97), (139, s374_139), (144, s374_144), (167, s374_167), (172, s374_172), (184, s374_184), (195, s374_195), (207, s374_207), (208, s374_208), (223, s374_223), (237, s374_237), (270, s374_270), (271, s374_271), (278, s374_278), (299, s374_299), (300, s374_300), (304, s374_304)]
theorem l374_0 : lkc cd374 0 = s374_0 := rfl
theorem l374_2 : lkc cd374 2 = s374_2 := rfl
theorem l374_23 : lkc cd374 23 = s374_23 := rfl
theorem l374_25 : lkc cd374 25 = s374_25 := rfl
theorem l374_77 : lkc cd374 77 = s374_77 := rfl
theorem l374_88 : lkc cd374 88 = s374_88 := rfl
theorem l374_89 : lkc cd374 89 = s374_89 := rfl
theorem l374_95 : lkc cd374 95 = s374_95 := rfl
theorem l374_97 : lkc cd374 97 = s374_97 := rfl
theorem l374_139 : lkc cd374 139 = s374_139 := rfl
theorem l374_144 : lkc cd374 144 = s374_144 := rfl
theorem l374_167 : lkc cd374 167 = s374_167 := rfl
theorem l374_172 : lkc cd374 172 = s374_172 := rfl
theorem l374_184 : lkc cd374 184 = s374_184 := rfl
theorem l374_195 : lkc cd374 195 = s374_195 := rfl
theorem l374_207 : lkc cd374 207 = s374_207 := rfl
theorem l374_208 : lkc cd374 208 = s374_208 := rfl
theorem l374_223 : lkc cd374 223 = s374_223 := rfl
theorem l374_237 : lkc cd374 237 = s374_237 := rfl
theorem l374_270 : lkc cd374 270 = s374_270 := rfl
theorem l374_271 : lkc cd374 271 = s374_271 := rfl
theorem l374_278 : lkc cd374 278 = s374_278 := rfl
theorem l374_299 : lkc cd374 299 = s374_299 := rfl
theorem l374_300 : lkc cd374 300 = s374_300 := rfl
theorem l374_304 : lkc cd374 304 = s374_304 := rfl
theorem k374 : chkM 374 16 true cd374 = true := by decide +kernel
/- FontHouseModel.hasCodeMark()Z -/
def s375_0 : List E := [(.iconst 0, 0, []), (.istore_n 1, 0, [1]), (.nop, 0, [2])]
def s375_2 : List E := [(.iload_n 1, 0, [1]), (.aload_n 0, 0, [0]), (.getfield 817, 0, [16, 76, 0]), (.if_icmp .ge 24, 0, [31]), (.aload_n 0, 0, [0]), (.getfield 193, 58, [16, 85, 81, 1]), (.iload_n 1, 0, [1]), (.iaload, 0, []), (.sipush 256, 256, []), (.iand, 0, []), (.ifCond .le 5, 0, [25]), (.iconst 1, 1, []), (.ireturn, 0, [1])]
def s375_25 : List E := [(.iinc 1 1, 1, [1]), (.goto (-26), 0, [2])]
def s375_31 : List E := [(.iconst 0, 0, []), (.ireturn, 0, [1])]
def cd375 : List (Nat × List E) := [(0, s375_0), (2, s375_2), (25, s375_25), (31, s375_31)]
theorem l375_0 : lkc cd375 0 = s375_0 := rfl
theorem l375_2 : lkc cd375 2 = s375_2 := rfl
theorem l375_25 : lkc cd375 25 = s375_25 := rfl
theorem l375_31 : lkc cd375 31 = s375_31 := rfl
theorem k375 : chkM 375 16 true cd375 = true := by decide +kernel
/- FontHouseModel.glyphs(I)I -/
def s376_0 : List E := [(.aload_n 0, 0, [0]), (.iload_n 1, 0, [1]), (.invokevirtual 887, 0, [377, 16, 33, 8, 0, 0, 0]), (.istore_n 2, 0, [2]), (.iload_n 2, 0, [2]), (.ifCond .ge 7, 0, [14]), (.iload_n 2, 0, [2]), (.goto 7, 0, [18])]
def s376_14 : List E := [(.aload_n 0, 0, [0]), (.getfield 782, 0, [16, 70, 0]), (.nop, 0, [18])]
def s376_18 : List E := [(.ireturn, 0, [])]
def cd376 : List (Nat × List E) := [(0, s376_0), (14, s376_14), (18, s376_18)]
theorem l376_0 : lkc cd376 0 = s376_0 := rfl
theorem l376_14 : lkc cd376 14 = s376_14 := rfl
theorem l376_18 : lkc cd376 18 = s376_18 := rfl
theorem k376 : chkM 376 16 true cd376 = true := by decide +kernel
/- FontHouseModel.fontFault(I)I -/
def s377_0 : List E := [(.iload_n 1, 0, [1]), (.invokestatic 640, 0, [312, 183, 0, 3, 0]), (.ifCond .ne 7, 0, [11]), (.iconst (-1), -1, []), (.goto 27, 0, [35])]
def s377_11 : List E := [(.aload_n 0, 0, [0]), (.getfield 132, 38, [16, 53, 89, 1]), (.iload_n 1, 0, [1]), (.baload, 0, [44]), (.ifCond .eq 12, 0, [29]), (.aload_n 0, 0, [0]), (.iload_n 1, 0, [1]), (.iconst 1, 1, []), (.invokevirtual 884, 0, [378, 16, 33, 8, 0, 3, 3, 0]), (.ifCond .ne 8, 0, [34]), (.nop, 0, [29])]
def s377_29 : List E := [(.bipush (-3), -3, []), (.goto 4, 0, [35])]
def s377_34 : List E := [(.iconst 0, 0, []), (.nop, 0, [35])]
def s377_35 : List E := [(.ireturn, 0, [])]
def cd377 : List (Nat × List E) := [(0, s377_0), (11, s377_11), (29, s377_29), (34, s377_34), (35, s377_35)]
theorem l377_0 : lkc cd377 0 = s377_0 := rfl
theorem l377_11 : lkc cd377 11 = s377_11 := rfl
theorem l377_29 : lkc cd377 29 = s377_29 := rfl
theorem l377_34 : lkc cd377 34 = s377_34 := rfl
theorem l377_35 : lkc cd377 35 = s377_35 := rfl
theorem k377 : chkM 377 16 true cd377 = true := by decide +kernel
