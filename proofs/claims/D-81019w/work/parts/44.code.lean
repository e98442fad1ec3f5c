set_option maxRecDepth 100000
/- FontHouseModel.isGood(IZ)Z -/
def s378_0 : List E := [(.aload_n 0, 0, [0]), (.getfield 343, 0, [16, 2, 0]), (.istore_n 3, 0, [3]), (.aload_n 0, 0, [0]), (.getfield 18, 0, [16, 3, 0]), (.istore 4, 0, [4]), (.aload_n 0, 0, [0]), (.iconst 0, 0, []), (.putfield 343, 0, [16, 2, 0]), (.aload_n 0, 0, [0]), (.iload_n 1, 0, [1]), (.iload_n 2, 0, [2]), (.invokevirtual 796, 0, [360, 16, 33, 8, 0, 100, 3, 0]), (.aload_n 0, 0, [0]), (.getfield 343, 0, [16, 2, 0]), (.ifCond .ne 7, 0, [33]), (.iconst 1, 1, []), (.goto 4, 0, [34])]
def s378_33 : List E := [(.iconst 0, 0, []), (.nop, 0, [34])]
def s378_34 : List E := [(.istore 5, 0, [5]), (.aload_n 0, 0, [0]), (.iload_n 3, 0, [3]), (.putfield 343, 0, [16, 2, 0]), (.aload_n 0, 0, [0]), (.iload 4, 0, [4]), (.putfield 18, 0, [16, 3, 0]), (.iload 5, 0, [5]), (.ireturn, 0, [1])]
def cd378 : List (Nat × List E) := [(0, s378_0), (33, s378_33), (34, s378_34)]
theorem l378_0 : lkc cd378 0 = s378_0 := rfl
theorem l378_33 : lkc cd378 33 = s378_33 := rfl
theorem l378_34 : lkc cd378 34 = s378_34 := rfl
theorem k378 : chkM 378 16 true cd378 = true := by decide +kernel
/- FontHouseModel.glyph(III)I -/
def s379_0 : List E := [(.aload_n 0, 0, [0]), (.iload_n 1, 0, [1]), (.iload_n 2, 0, [2]), (.invokevirtual 896, 0, [380, 16, 33, 8, 0, 0, 0, 0]), (.istore 4, 0, [4]), (.iload 4, 0, [4]), (.ifCond .lt 13, 0, [23]), (.iload_n 3, 0, [3]), (.ifCond .lt 9, 0, [23]), (.iload_n 3, 0, [3]), (.bipush 10, 10, []), (.if_icmp .le 16, 0, [36]), (.nop, 0, [23])]
def s379_23 : List E := [(.iload 4, 0, [4]), (.ifCond .ge 8, 0, [33]), (.iload 4, 0, [4]), (.goto 5, 0, [35])]
def s379_33 : List E := [(.bipush (-2), -2, []), (.nop, 0, [35])]
def s379_35 : List E := [(.ireturn, 0, [])]
def s379_36 : List E := [(.aload_n 0, 0, [0]), (.iload_n 1, 0, [1]), (.iload_n 2, 0, [2]), (.invokevirtual 899, 0, [381, 16, 33, 87, 0, 100, 0, 0]), (.aload_n 0, 0, [0]), (.iload_n 1, 0, [1]), (.ldc2_w 668, 1752003704, []), (.invokevirtual 762, 0, [346, 16, 33, 199, 0, 0, 5, 0]), (.istore 5, 0, [5]), (.iload_n 3, 0, [3]), (.tableswitch 133 0 10 #[59, 64, 83, 133, 133, 133, 133, 88, 96, 104, 120], 0, [186, 112, 117, 136, 186, 186, 186, 186, 141, 149, 157, 173])]
def s379_112 : List E := [(.aload_n 0, 0, [0]), (.getfield 808, 0, [16, 73, 0]), (.ireturn, 0, [])]
def s379_117 : List E := [(.aload_n 0, 0, [0]), (.getfield 808, 0, [16, 73, 0]), (.ifCond .ge 10, 0, [131]), (.aload_n 0, 0, [0]), (.getfield 817, 0, [16, 76, 0]), (.goto 7, 0, [135])]
def s379_131 : List E := [(.aload_n 0, 0, [0]), (.getfield 814, 0, [16, 75, 0]), (.nop, 0, [135])]
def s379_135 : List E := [(.ireturn, 0, [])]
def s379_136 : List E := [(.aload_n 0, 0, [0]), (.getfield 820, 0, [16, 77, 0]), (.ireturn, 0, [])]
def s379_141 : List E := [(.aload_n 0, 0, [0]), (.iload 5, 0, [5]), (.iload_n 2, 0, [2]), (.invokevirtual 902, 0, [383, 16, 33, 181, 0, 0, 0, 0]), (.ireturn, 0, [])]
def s379_149 : List E := [(.aload_n 0, 0, [0]), (.iload 5, 0, [5]), (.iload_n 2, 0, [2]), (.invokevirtual 905, 0, [384, 16, 33, 159, 0, 0, 0, 0]), (.ireturn, 0, [])]
def s379_157 : List E := [(.aload_n 0, 0, [0]), (.iload_n 1, 0, [1]), (.iload_n 2, 0, [2]), (.iconst 1, 1, []), (.iadd, 0, []), (.invokevirtual 890, 0, [382, 16, 33, 136, 0, 0, 0, 0]), (.aload_n 0, 0, [0]), (.iload_n 1, 0, [1]), (.iload_n 2, 0, [2]), (.invokevirtual 890, 0, [382, 16, 33, 136, 0, 0, 0, 0]), (.isub, 0, []), (.ireturn, 0, [])]
def s379_173 : List E := [(.aload_n 0, 0, [0]), (.getfield 823, 0, [16, 78, 3]), (.ifCond .eq 7, 0, [184]), (.iconst 1, 1, []), (.goto 4, 0, [185])]
def s379_184 : List E := [(.iconst 0, 0, []), (.nop, 0, [185])]
def s379_185 : List E := [(.ireturn, 0, [])]
def s379_186 : List E := [(.aload_n 0, 0, [0]), (.getfield 175, 52, [16, 79, 81, 1]), (.iload_n 3, 0, [3]), (.iconst 3, 3, []), (.isub, 0, []), (.iaload, 0, []), (.ireturn, 0, [])]
def cd379 : List (Nat × List E) := [(0, s379_0), (23, s379_23), (33, s379_33), (35, s379_35), (36, s379_36), (112, s379_112), (117, s379_117), (131, s379_131), (135, s379_135), (136, s379_136), (141, s379_141), (149, s379_149), (157, s379_157), (173, s379_173), (184, s379_184), (185, s379_185), (186, s379_186)]
theorem l379_0 : lkc cd379 0 = s379_0 := rfl
theorem l379_23 : lkc cd379 23 = s379_23 := rfl
theorem l379_33 : lkc cd379 33 = s379_33 := rfl
theorem l379_35 : lkc cd379 35 = s379_35 := rfl
theorem l379_36 : lkc cd379 36 = s379_36 := rfl
theorem l379_112 : lkc cd379 112 = s379_112 := rfl
theorem l379_117 : lkc cd379 117 = s379_117 := rfl
theorem l379_131 : lkc cd379 131 = s379_131 := rfl
theorem l379_135 : lkc cd379 135 = s379_135 := rfl
theorem l379_136 : lkc cd379 136 = s379_136 := rfl
theorem l379_141 : lkc cd379 141 = s379_141 := rfl
theorem l379_149 : lkc cd379 149 = s379_149 := rfl
theorem l379_157 : lkc cd379 157 = s379_157 := rfl
theorem l379_173 : lkc cd379 173 = s379_173 := rfl
theorem l379_184 : lkc cd379 184 = s379_184 := rfl
theorem l379_185 : lkc cd379 185 = s379_185 := rfl
theorem l379_186 : lkc cd379 186 = s379_186 := rfl
theorem k379 : chkM 379 16 true cd379 = true := by decide +kernel
/- FontHouseModel.glyphFault(II)I -/
def s380_0 : List E := [(.aload_n 0, 0, [0]), (.iload_n 1, 0, [1]), (.invokevirtual 887, 0, [377, 16, 33, 8, 0, 0, 0]), (.istore_n 3, 0, [3]), (.iload_n 3, 0, [3]), (.ifCond .ge 7, 0, [14]), (.iload_n 3, 0, [3]), (.goto 20, 0, [31])]
def s380_14 : List E := [(.iload_n 2, 0, [2]), (.ifCond .lt 11, 0, [26]), (.iload_n 2, 0, [2]), (.aload_n 0, 0, [0]), (.getfield 782, 0, [16, 70, 0]), (.if_icmp .lt 7, 0, [30]), (.nop, 0, [26])]
def s380_26 : List E := [(.iconst (-1), -1, []), (.goto 4, 0, [31])]
def s380_30 : List E := [(.iconst 0, 0, []), (.nop, 0, [31])]
def s380_31 : List E := [(.ireturn, 0, [])]
def cd380 : List (Nat × List E) := [(0, s380_0), (14, s380_14), (26, s380_26), (30, s380_30), (31, s380_31)]
theorem l380_0 : lkc cd380 0 = s380_0 := rfl
theorem l380_14 : lkc cd380 14 = s380_14 := rfl
theorem l380_26 : lkc cd380 26 = s380_26 := rfl
theorem l380_30 : lkc cd380 30 = s380_30 := rfl
theorem l380_31 : lkc cd380 31 = s380_31 := rfl
theorem k380 : chkM 380 16 true cd380 = true := by decide +kernel
/- FontHouseModel.bring(II)V -/
def s381_0 : List E := [(.aload_n 0, 0, [0]), (.aload_n 0, 0, [0]), (.iload_n 1, 0, [1]), (.ldc2_w 666, 1735162214, []), (.invokevirtual 762, 0, [346, 16, 33, 98, 0, 0, 5, 0]), (.aload_n 0, 0, [0]), (.iload_n 1, 0, [1]), (.iload_n 2, 0, [2]), (.invokevirtual 890, 0, [382, 16, 33, 35, 0, 0, 0, 0]), (.aload_n 0, 0, [0]), (.iload_n 1, 0, [1]), (.iload_n 2, 0, [2]), (.iconst 1, 1, []), (.iadd, 0, []), (.invokevirtual 890, 0, [382, 16, 33, 35, 0, 0, 0, 0]), (.invokevirtual 792, 0, [364, 16, 33, 8, 0, 3, 0, 0, 0]), (.pop, 0, []), (.return_, 0, [])]
def cd381 : List (Nat × List E) := [(0, s381_0)]
theorem l381_0 : lkc cd381 0 = s381_0 := rfl
theorem k381 : chkM 381 16 true cd381 = true := by decide +kernel
/- FontHouseModel.recordFrom(II)I -/
def s382_0 : List E := [(.aload_n 0, 0, [0]), (.aload_n 0, 0, [0]), (.iload_n 1, 0, [1]), (.ldc2_w 670, 1819239265, []), (.invokevirtual 762, 0, [346, 16, 33, 49, 0, 0, 5, 0]), (.aload_n 0, 0, [0]), (.getfield 779, 0, [16, 72, 0]), (.iload_n 2, 0, [2]), (.invokevirtual 788, 0, [363, 16, 33, 8, 0, 5, 0, 0, 0]), (.l2i, 0, []), (.ireturn, 0, [])]
def cd382 : List (Nat × List E) := [(0, s382_0)]
theorem l382_0 : lkc cd382 0 = s382_0 := rfl
theorem k382 : chkM 382 16 true cd382 = true := by decide +kernel
/- FontHouseModel.advanceOf(II)I -/
def s383_0 : List E := [(.aload_n 0, 0, [0]), (.iload_n 1, 0, [1]), (.iconst 4, 4, []), (.iload_n 2, 0, [2]), (.aload_n 0, 0, [0]), (.getfield 785, 0, [16, 71, 0]), (.if_icmp .ge 7, 0, [15]), (.iload_n 2, 0, [2]), (.goto 9, 0, [21])]
def s383_15 : List E := [(.aload_n 0, 0, [0]), (.getfield 785, 0, [16, 71, 0]), (.iconst 1, 1, []), (.isub, 0, []), (.nop, 0, [21])]
def s383_21 : List E := [(.imul, 0, []), (.invokevirtual 615, 0, [362, 16, 33, 8, 0, 0, 0, 0]), (.ireturn, 0, [])]
def cd383 : List (Nat × List E) := [(0, s383_0), (15, s383_15), (21, s383_21)]
theorem l383_0 : lkc cd383 0 = s383_0 := rfl
theorem l383_15 : lkc cd383 15 = s383_15 := rfl
theorem l383_21 : lkc cd383 21 = s383_21 := rfl
theorem k383 : chkM 383 16 true cd383 = true := by decide +kernel
/- FontHouseModel.bearingOf(II)I -/
def s384_0 : List E := [(.aload_n 0, 0, [0]), (.iload_n 1, 0, [1]), (.iload_n 2, 0, [2]), (.aload_n 0, 0, [0]), (.getfield 785, 0, [16, 71, 0]), (.if_icmp .ge 11, 0, [18]), (.iconst 4, 4, []), (.iload_n 2, 0, [2]), (.imul, 0, []), (.iconst 2, 2, []), (.iadd, 0, []), (.goto 11, 0, [26])]
def s384_18 : List E := [(.iconst 2, 2, []), (.aload_n 0, 0, [0]), (.getfield 785, 0, [16, 71, 0]), (.iload_n 2, 0, [2]), (.iadd, 0, []), (.imul, 0, []), (.nop, 0, [26])]
def s384_26 : List E := [(.invokevirtual 893, 0, [385, 16, 33, 8, 0, 0, 0, 0]), (.ireturn, 0, [])]
def cd384 : List (Nat × List E) := [(0, s384_0), (18, s384_18), (26, s384_26)]
theorem l384_0 : lkc cd384 0 = s384_0 := rfl
theorem l384_18 : lkc cd384 18 = s384_18 := rfl
theorem l384_26 : lkc cd384 26 = s384_26 := rfl
theorem k384 : chkM 384 16 true cd384 = true := by decide +kernel
/- FontHouseModel.signed(II)I -/
def s385_0 : List E := [(.aload_n 0, 0, [0]), (.iload_n 1, 0, [1]), (.iload_n 2, 0, [2]), (.invokevirtual 615, 0, [362, 16, 33, 8, 0, 0, 0, 0]), (.i2s, 0, []), (.ireturn, 0, [])]
def cd385 : List (Nat × List E) := [(0, s385_0)]
theorem l385_0 : lkc cd385 0 = s385_0 := rfl
theorem k385 : chkM 385 16 true cd385 = true := by decide +kernel
/- FontHouseModel.point(IIII)I -/
def s386_0 : List E := [(.aload_n 0, 0, [0]), (.iload_n 1, 0, [1]), (.iload_n 2, 0, [2]), (.invokevirtual 896, 0, [380, 16, 33, 8, 0, 0, 0, 0]), (.istore 5, 0, [5]), (.iload 5, 0, [5]), (.ifCond .ge 6, 0, [16]), (.iload 5, 0, [5]), (.ireturn, 0, [])]
def s386_16 : List E := [(.aload_n 0, 0, [0]), (.iload_n 1, 0, [1]), (.iload_n 2, 0, [2]), (.invokevirtual 899, 0, [381, 16, 33, 87, 0, 100, 0, 0]), (.aload_n 0, 0, [0]), (.getfield 808, 0, [16, 73, 0]), (.ifCond .gt 6, 0, [32]), (.bipush (-3), -3, []), (.ireturn, 0, [])]
def s386_32 : List E := [(.iload_n 3, 0, [3]), (.ifCond .lt 22, 0, [55]), (.iload_n 3, 0, [3]), (.aload_n 0, 0, [0]), (.getfield 814, 0, [16, 75, 0]), (.if_icmp .ge 14, 0, [55]), (.iload 4, 0, [4]), (.ifCond .lt 9, 0, [55]), (.iload 4, 0, [4]), (.iconst 3, 3, []), (.if_icmp .le 6, 0, [58]), (.nop, 0, [55])]
def s386_55 : List E := [(.bipush (-2), -2, []), (.ireturn, 0, [])]
def s386_58 : List E := [(.iconst 0, 0, []), (.istore 6, 0, [6]), (.iconst 0, 0, []), (.istore 7, 0, [7]), (.nop, 0, [64])]
def s386_64 : List E := [(.iload 7, 0, [7]), (.aload_n 0, 0, [0]), (.getfield 811, 0, [16, 74, 0]), (.if_icmp .ge 32, 0, [102]), (.iload 6, 0, [6]), (.ifCond .ne 14, 0, [89]), (.aload_n 0, 0, [0]), (.getfield 178, 53, [16, 80, 81, 1]), (.iload 7, 0, [7]), (.iaload, 0, []), (.iload_n 3, 0, [3]), (.if_icmp .ne 7, 0, [93]), (.nop, 0, [89])]
def s386_89 : List E := [(.iconst 1, 1, []), (.goto 4, 0, [94])]
def s386_93 : List E := [(.iconst 0, 0, []), (.nop, 0, [94])]
def s386_94 : List E := [(.istore 6, 0, [6]), (.iinc 7 1, 1, [7]), (.goto (-35), 0, [64])]
def s386_102 : List E := [(.iload 4, 0, [4]), (.ifCond .ne 12, 0, [116]), (.aload_n 0, 0, [0]), (.getfield 181, 54, [16, 81, 81, 1]), (.iload_n 3, 0, [3]), (.iaload, 0, []), (.goto 51, 0, [164])]
def s386_116 : List E := [(.iload 4, 0, [4]), (.iconst 1, 1, []), (.if_icmp .ne 12, 0, [131]), (.aload_n 0, 0, [0]), (.getfield 184, 55, [16, 82, 81, 1]), (.iload_n 3, 0, [3]), (.iaload, 0, []), (.goto 36, 0, [164])]
def s386_131 : List E := [(.iload 4, 0, [4]), (.iconst 2, 2, []), (.if_icmp .ne 20, 0, [154]), (.aload_n 0, 0, [0]), (.getfield 187, 56, [16, 83, 89, 1]), (.iload_n 3, 0, [3]), (.baload, 0, [44]), (.ifCond .eq 7, 0, [150]), (.iconst 1, 1, []), (.goto 17, 0, [164])]
def s386_150 : List E := [(.iconst 0, 0, []), (.goto 13, 0, [164])]
def s386_154 : List E := [(.iload 6, 0, [6]), (.ifCond .eq 7, 0, [163]), (.iconst 1, 1, []), (.goto 4, 0, [164])]
def s386_163 : List E := [(.iconst 0, 0, []), (.nop, 0, [164])]
def s386_164 : List E := [(.ireturn, 0, [])]
def cd386 : List (Nat × List E) := [(0, s386_0), (16, s386_16), (32, s386_32), (55, s386_55), (58, s386_58), (64, s386_64), (89, s386_89), (93, s386_93), (94, s386_94), (102, s386_102), (116, s386_116), (131, s386_131), (150, s386_150), (154, s386_154), (163, s386_163), (164, s386_164)]
theorem l386_0 : lkc cd386 0 = s386_0 := rfl
theorem l386_16 : lkc cd386 16 = s386_16 := rfl
theorem l386_32 : lkc cd386 32 = s386_32 := rfl
theorem l386_55 : lkc cd386 55 = s386_55 := rfl
theorem l386_58 : lkc cd386 58 = s386_58 := rfl
theorem l386_64 : lkc cd386 64 = s386_64 := rfl
theorem l386_89 : lkc cd386 89 = s386_89 := rfl
theorem l386_93 : lkc cd386 93 = s386_93 := rfl
theorem l386_94 : lkc cd386 94 = s386_94 := rfl
theorem l386_102 : lkc cd386 102 = s386_102 := rfl
theorem l386_116 : lkc cd386 116 = s386_116 := rfl
theorem l386_131 : lkc cd386 131 = s386_131 := rfl
theorem l386_150 : lkc cd386 150 = s386_150 := rfl
theorem l386_154 : lkc cd386 154 = s386_154 := rfl
theorem l386_163 : lkc cd386 163 = s386_163 := rfl
theorem l386_164 : lkc cd386 164 = s386_164 := rfl
theorem k386 : chkM 386 16 true cd386 = true := by decide +kernel
/- FontHouseModel.part(IIII)I -/
def s387_0 : List E := [(.aload_n 0, 0, [0]), (.iload_n 1, 0, [1]), (.iload_n 2, 0, [2]), (.invokevirtual 896, 0, [380, 16, 33, 8, 0, 0, 0, 0]), (.istore 5, 0, [5]), (.iload 5, 0, [5]), (.ifCond .ge 6, 0, [16]), (.iload 5, 0, [5]), (.ireturn, 0, [])]
def s387_16 : List E := [(.aload_n 0, 0, [0]), (.iload_n 1, 0, [1]), (.iload_n 2, 0, [2]), (.invokevirtual 899, 0, [381, 16, 33, 87, 0, 100, 0, 0]), (.aload_n 0, 0, [0]), (.getfield 808, 0, [16, 73, 0]), (.ifCond .lt 6, 0, [32]), (.bipush (-3), -3, []), (.ireturn, 0, [])]
def s387_32 : List E := [(.iload_n 3, 0, [3]), (.ifCond .lt 23, 0, [56]), (.iload_n 3, 0, [3]), (.aload_n 0, 0, [0]), (.getfield 817, 0, [16, 76, 0]), (.if_icmp .ge 15, 0, [56]), (.iload 4, 0, [4]), (.ifCond .lt 10, 0, [56]), (.iload 4, 0, [4]), (.bipush 8, 8, []), (.if_icmp .le 6, 0, [59]), (.nop, 0, [56])]
def s387_56 : List E := [(.bipush (-2), -2, []), (.ireturn, 0, [])]
def s387_59 : List E := [(.iload 4, 0, [4]), (.ifCond .ne 12, 0, [73]), (.aload_n 0, 0, [0]), (.getfield 193, 58, [16, 85, 81, 1]), (.iload_n 3, 0, [3]), (.iaload, 0, []), (.goto 76, 0, [146])]
def s387_73 : List E := [(.iload 4, 0, [4]), (.iconst 1, 1, []), (.if_icmp .ne 12, 0, [88]), (.aload_n 0, 0, [0]), (.getfield 196, 59, [16, 86, 81, 1]), (.iload_n 3, 0, [3]), (.iaload, 0, []), (.goto 61, 0, [146])]
def s387_88 : List E := [(.iload 4, 0, [4]), (.iconst 2, 2, []), (.if_icmp .ne 12, 0, [103]), (.aload_n 0, 0, [0]), (.getfield 199, 60, [16, 87, 81, 1]), (.iload_n 3, 0, [3]), (.iaload, 0, []), (.goto 46, 0, [146])]
def s387_103 : List E := [(.iload 4, 0, [4]), (.iconst 3, 3, []), (.if_icmp .ne 12, 0, [118]), (.aload_n 0, 0, [0]), (.getfield 202, 61, [16, 88, 81, 1]), (.iload_n 3, 0, [3]), (.iaload, 0, []), (.goto 31, 0, [146])]
def s387_118 : List E := [(.iload 4, 0, [4]), (.iconst 4, 4, []), (.if_icmp .ne 12, 0, [133]), (.aload_n 0, 0, [0]), (.getfield 205, 62, [16, 89, 81, 1]), (.iload_n 3, 0, [3]), (.iaload, 0, []), (.goto 16, 0, [146])]
def s387_133 : List E := [(.aload_n 0, 0, [0]), (.getfield 208, 63, [16, 90, 81, 1]), (.iconst 4, 4, []), (.iload_n 3, 0, [3]), (.imul, 0, []), (.iload 4, 0, [4]), (.iadd, 0, []), (.iconst 5, 5, []), (.isub, 0, []), (.iaload, 0, []), (.nop, 0, [146])]
def s387_146 : List E := [(.ireturn, 0, [])]
def cd387 : List (Nat × List E) := [(0, s387_0), (16, s387_16), (32, s387_32), (56, s387_56), (59, s387_59), (73, s387_73), (88, s387_88), (103, s387_103), (118, s387_118), (133, s387_133), (146, s387_146)]
theorem l387_0 : lkc cd387 0 = s387_0 := rfl
theorem l387_16 : lkc cd387 16 = s387_16 := rfl
theorem l387_32 : lkc cd387 32 = s387_32 := rfl
theorem l387_56 : lkc cd387 56 = s387_56 := rfl
theorem l387_59 : lkc cd387 59 = s387_59 := rfl
theorem l387_73 : lkc cd387 73 = s387_73 := rfl
theorem l387_88 : lkc cd387 88 = s387_88 := rfl
theorem l387_103 : lkc cd387 103 = s387_103 := rfl
theorem l387_118 : lkc cd387 118 = s387_118 := rfl
theorem l387_133 : lkc cd387 133 = s387_133 := rfl
theorem l387_146 : lkc cd387 146 = s387_146 := rfl
theorem k387 : chkM 387 16 true cd387 = true := by decide +kernel
/- FontHouseModel.code(III)I -/
def s388_0 : List E := [(.aload_n 0, 0, [0]), (.iload_n 1, 0, [1]), (.iload_n 2, 0, [2]), (.invokevirtual 896, 0, [380, 16, 33, 8, 0, 0, 0, 0]), (.istore 4, 0, [4]), (.iload 4, 0, [4]), (.ifCond .ge 6, 0, [16]), (.iload 4, 0, [4]), (.ireturn, 0, [])]
def s388_16 : List E := [(.aload_n 0, 0, [0]), (.iload_n 1, 0, [1]), (.iload_n 2, 0, [2]), (.invokevirtual 899, 0, [381, 16, 33, 87, 0, 100, 0, 0]), (.iload_n 3, 0, [3]), (.ifCond .lt 11, 0, [34]), (.iload_n 3, 0, [3]), (.aload_n 0, 0, [0]), (.getfield 820, 0, [16, 77, 0]), (.if_icmp .lt 8, 0, [39]), (.nop, 0, [34])]
def s388_34 : List E := [(.bipush (-2), -2, []), (.goto 13, 0, [49])]
def s388_39 : List E := [(.aload_n 0, 0, [0]), (.getfield 211, 64, [16, 91, 83, 1]), (.iload_n 3, 0, [3]), (.baload, 0, [41]), (.sipush 255, 255, []), (.iand, 0, []), (.nop, 0, [49])]
def s388_49 : List E := [(.ireturn, 0, [])]
def cd388 : List (Nat × List E) := [(0, s388_0), (16, s388_16), (34, s388_34), (39, s388_39), (49, s388_49)]
theorem l388_0 : lkc cd388 0 = s388_0 := rfl
theorem l388_16 : lkc cd388 16 = s388_16 := rfl
theorem l388_34 : lkc cd388 34 = s388_34 := rfl
theorem l388_39 : lkc cd388 39 = s388_39 := rfl
theorem l388_49 : lkc cd388 49 = s388_49 := rfl
theorem k388 : chkM 388 16 true cd388 = true := by decide +kernel
/- FontHouseModel.metric(IIII)I -/
def s389_0 : List E := [(.aload_n 0, 0, [0]), (.iload_n 1, 0, [1]), (.iload_n 2, 0, [2]), (.invokevirtual 896, 0, [380, 16, 33, 8, 0, 0, 0, 0]), (.istore 5, 0, [5]), (.iload 5, 0, [5]), (.ifCond .ge 6, 0, [16]), (.iload 5, 0, [5]), (.ireturn, 0, [])]
def s389_16 : List E := [(.iload_n 3, 0, [3]), (.ifCond .lt 26, 0, [43]), (.iload_n 3, 0, [3]), (.ldc_w 908, 65535, []), (.if_icmp .gt 19, 0, [43]), (.iload 4, 0, [4]), (.sipush (-32768), -32768, []), (.if_icmp .lt 11, 0, [43]), (.iload 4, 0, [4]), (.sipush 32767, 32767, []), (.if_icmp .le 6, 0, [46]), (.nop, 0, [43])]
def s389_43 : List E := [(.bipush (-2), -2, []), (.ireturn, 0, [])]
def s389_46 : List E := [(.aload_n 0, 0, [0]), (.iload_n 1, 0, [1]), (.ldc2_w 668, 1752003704, []), (.invokevirtual 762, 0, [346, 16, 33, 199, 0, 0, 5, 0]), (.istore 6, 0, [6]), (.iload_n 2, 0, [2]), (.aload_n 0, 0, [0]), (.getfield 785, 0, [16, 71, 0]), (.if_icmp .lt 17, 0, [78]), (.iload_n 3, 0, [3]), (.aload_n 0, 0, [0]), (.iload 6, 0, [6]), (.iload_n 2, 0, [2]), (.invokevirtual 902, 0, [383, 16, 33, 181, 0, 0, 0, 0]), (.if_icmp .eq 6, 0, [78]), (.bipush (-3), -3, []), (.ireturn, 0, [])]
def s389_78 : List E := [(.aload_n 0, 0, [0]), (.invokevirtual 643, 0, [313, 16, 33, 203, 0, 100]), (.aload_n 0, 0, [0]), (.iload 6, 0, [6]), (.aload_n 0, 0, [0]), (.getfield 126, 36, [16, 51, 81, 1]), (.iload 6, 0, [6]), (.iaload, 0, []), (.invokevirtual 909, 0, [390, 16, 33, 200, 0, 0, 0, 0]), (.istore 7, 0, [7]), (.iload_n 2, 0, [2]), (.aload_n 0, 0, [0]), (.getfield 785, 0, [16, 71, 0]), (.if_icmp .ge 13, 0, [115]), (.aload_n 0, 0, [0]), (.iload 7, 0, [7]), (.iconst 4, 4, []), (.iload_n 2, 0, [2]), (.imul, 0, []), (.iload_n 3, 0, [3]), (.invokevirtual 618, 0, [318, 16, 33, 224, 0, 100, 0, 0, 0]), (.nop, 0, [115])]
def s389_115 : List E := [(.aload_n 0, 0, [0]), (.iload 7, 0, [7]), (.iload_n 2, 0, [2]), (.aload_n 0, 0, [0]), (.getfield 785, 0, [16, 71, 0]), (.if_icmp .ge 11, 0, [134]), (.iconst 4, 4, []), (.iload_n 2, 0, [2]), (.imul, 0, []), (.iconst 2, 2, []), (.iadd, 0, []), (.goto 11, 0, [142])]
def s389_134 : List E := [(.iconst 2, 2, []), (.aload_n 0, 0, [0]), (.getfield 785, 0, [16, 71, 0]), (.iload_n 2, 0, [2]), (.iadd, 0, []), (.imul, 0, []), (.nop, 0, [142])]
def s389_142 : List E := [(.iload 4, 0, [4]), (.invokevirtual 618, 0, [318, 16, 33, 224, 0, 100, 0, 0, 0]), (.aload_n 0, 0, [0]), (.iload_n 1, 0, [1]), (.ldc2_w 668, 1752003704, []), (.iload 7, 0, [7]), (.invokevirtual 658, 0, [319, 16, 33, 198, 0, 100, 0, 5, 0]), (.aload_n 0, 0, [0]), (.invokevirtual 672, 0, [321, 16, 33, 183, 0, 3]), (.ifCond .eq 7, 0, [168]), (.iconst 1, 1, []), (.goto 5, 0, [170])]
def s389_168 : List E := [(.bipush (-4), -4, []), (.nop, 0, [170])]
def s389_170 : List E := [(.ireturn, 0, [])]
def cd389 : List (Nat × List E) := [(0, s389_0), (16, s389_16), (43, s389_43), (46, s389_46), (78, s389_78), (115, s389_115), (134, s389_134), (142, s389_142), (168, s389_168), (170, s389_170)]
theorem l389_0 : lkc cd389 0 = s389_0 := rfl
theorem l389_16 : lkc cd389 16 = s389_16 := rfl
theorem l389_43 : lkc cd389 43 = s389_43 := rfl
theorem l389_46 : lkc cd389 46 = s389_46 := rfl
theorem l389_78 : lkc cd389 78 = s389_78 := rfl
theorem l389_115 : lkc cd389 115 = s389_115 := rfl
theorem l389_134 : lkc cd389 134 = s389_134 := rfl
theorem l389_142 : lkc cd389 142 = s389_142 := rfl
theorem l389_168 : lkc cd389 168 = s389_168 := rfl
theorem l389_170 : lkc cd389 170 = s389_170 := rfl
theorem k389 : chkM 389 16 true cd389 = true := by decide +kernel
/- FontHouseModel.again(II)I -/
def s390_0 : List E := [(.aload_n 0, 0, [0]), (.iload_n 2, 0, [2]), (.invokevirtual 621, 0, [316, 16, 33, 8, 0, 0, 0]), (.istore_n 3, 0, [3]), (.iconst 0, 0, []), (.istore 4, 0, [4]), (.nop, 0, [9])]
def s390_9 : List E := [(.iload 4, 0, [4]), (.iload_n 2, 0, [2]), (.if_icmp .ge 46, 0, [58]), (.iload 4, 0, [4]), (.aload_n 0, 0, [0]), (.getfield 126, 36, [16, 51, 81, 1]), (.iload_n 1, 0, [1]), (.iaload, 0, []), (.if_icmp .ge 35, 0, [58]), (.aload_n 0, 0, [0]), (.getfield 123, 35, [16, 50, 83, 1]), (.sipush 12000, 12000, []), (.iload_n 3, 0, [3]), (.imul, 0, []), (.iload 4, 0, [4]), (.iadd, 0, []), (.aload_n 0, 0, [0]), (.getfield 123, 35, [16, 50, 83, 1]), (.sipush 12000, 12000, []), (.iload_n 1, 0, [1]), (.imul, 0, []), (.iload 4, 0, [4]), (.iadd, 0, []), (.baload, 0, [41]), (.bastore, 0, [41]), (.iinc 4 1, 1, [4]), (.goto (-46), 0, [9])]
def s390_58 : List E := [(.iload_n 3, 0, [3]), (.ireturn, 0, [])]
def cd390 : List (Nat × List E) := [(0, s390_0), (9, s390_9), (58, s390_58)]
theorem l390_0 : lkc cd390 0 = s390_0 := rfl
theorem l390_9 : lkc cd390 9 = s390_9 := rfl
theorem l390_58 : lkc cd390 58 = s390_58 := rfl
theorem k390 : chkM 390 16 true cd390 = true := by decide +kernel
/- FontHouseModel.wide(II)I -/
def s391_0 : List E := [(.aload_n 0, 0, [0]), (.iload_n 1, 0, [1]), (.invokevirtual 887, 0, [377, 16, 33, 8, 0, 0, 0]), (.istore_n 3, 0, [3]), (.iload_n 3, 0, [3]), (.ifCond .ge 5, 0, [12]), (.iload_n 3, 0, [3]), (.ireturn, 0, [])]
def s391_12 : List E := [(.iload_n 2, 0, [2]), (.iconst 1, 1, []), (.if_icmp .lt 11, 0, [25]), (.iload_n 2, 0, [2]), (.aload_n 0, 0, [0]), (.getfield 782, 0, [16, 70, 0]), (.if_icmp .le 6, 0, [28]), (.nop, 0, [25])]
def s391_25 : List E := [(.bipush (-2), -2, []), (.ireturn, 0, [])]
def s391_28 : List E := [(.aload_n 0, 0, [0]), (.iload_n 1, 0, [1]), (.ldc2_w 668, 1752003704, []), (.invokevirtual 762, 0, [346, 16, 33, 176, 0, 0, 5, 0]), (.istore 4, 0, [4]), (.iload_n 2, 0, [2]), (.istore 5, 0, [5]), (.nop, 0, [41])]
def s391_41 : List E := [(.iload 5, 0, [5]), (.aload_n 0, 0, [0]), (.getfield 782, 0, [16, 70, 0]), (.if_icmp .ge 32, 0, [79]), (.aload_n 0, 0, [0]), (.iload 4, 0, [4]), (.iload 5, 0, [5]), (.invokevirtual 902, 0, [383, 16, 33, 158, 0, 0, 0, 0]), (.aload_n 0, 0, [0]), (.iload 4, 0, [4]), (.iload_n 2, 0, [2]), (.iconst 1, 1, []), (.isub, 0, []), (.invokevirtual 902, 0, [383, 16, 33, 158, 0, 0, 0, 0]), (.if_icmp .eq 6, 0, [73]), (.bipush (-3), -3, []), (.ireturn, 0, [])]
def s391_73 : List E := [(.iinc 5 1, 1, [5]), (.goto (-35), 0, [41])]
def s391_79 : List E := [(.aload_n 0, 0, [0]), (.invokevirtual 643, 0, [313, 16, 33, 180, 0, 100]), (.aload_n 0, 0, [0]), (.getfield 785, 0, [16, 71, 0]), (.istore 5, 0, [5]), (.aload_n 0, 0, [0]), (.iconst 4, 4, []), (.iload_n 2, 0, [2]), (.imul, 0, []), (.iconst 2, 2, []), (.aload_n 0, 0, [0]), (.getfield 782, 0, [16, 70, 0]), (.iload_n 2, 0, [2]), (.isub, 0, []), (.imul, 0, []), (.iadd, 0, []), (.invokevirtual 621, 0, [316, 16, 33, 201, 0, 0, 0]), (.istore 6, 0, [6]), (.iconst 0, 0, []), (.istore 7, 0, [7]), (.nop, 0, [110])]
def s391_110 : List E := [(.iload 7, 0, [7]), (.aload_n 0, 0, [0]), (.getfield 782, 0, [16, 70, 0]), (.if_icmp .ge 68, 0, [184]), (.iload 7, 0, [7]), (.iload_n 2, 0, [2]), (.if_icmp .ge 21, 0, [143]), (.aload_n 0, 0, [0]), (.iload 6, 0, [6]), (.iconst 4, 4, []), (.iload 7, 0, [7]), (.imul, 0, []), (.aload_n 0, 0, [0]), (.iload 4, 0, [4]), (.iload 7, 0, [7]), (.invokevirtual 902, 0, [383, 16, 33, 158, 0, 0, 0, 0]), (.invokevirtual 618, 0, [318, 16, 33, 201, 0, 100, 0, 0, 0]), (.nop, 0, [143])]
def s391_143 : List E := [(.aload_n 0, 0, [0]), (.iload 6, 0, [6]), (.iload 7, 0, [7]), (.iload_n 2, 0, [2]), (.if_icmp .ge 12, 0, [161]), (.iconst 4, 4, []), (.iload 7, 0, [7]), (.imul, 0, []), (.iconst 2, 2, []), (.iadd, 0, []), (.goto 9, 0, [167])]
def s391_161 : List E := [(.iconst 2, 2, []), (.iload_n 2, 0, [2]), (.iload 7, 0, [7]), (.iadd, 0, []), (.imul, 0, []), (.nop, 0, [167])]
def s391_167 : List E := [(.aload_n 0, 0, [0]), (.iload 4, 0, [4]), (.iload 7, 0, [7]), (.invokevirtual 905, 0, [384, 16, 33, 136, 0, 0, 0, 0]), (.invokevirtual 618, 0, [318, 16, 33, 201, 0, 100, 0, 0, 0]), (.iinc 7 1, 1, [7]), (.goto (-71), 0, [110])]
def s391_184 : List E := [(.aload_n 0, 0, [0]), (.iload_n 1, 0, [1]), (.ldc2_w 668, 1752003704, []), (.iload 6, 0, [6]), (.invokevirtual 658, 0, [319, 16, 33, 175, 0, 100, 0, 5, 0]), (.aload_n 0, 0, [0]), (.aload_n 0, 0, [0]), (.iload_n 1, 0, [1]), (.ldc2_w 662, 1751672161, []), (.invokevirtual 762, 0, [346, 16, 33, 176, 0, 0, 5, 0]), (.bipush 36, 36, []), (.invokevirtual 909, 0, [390, 16, 33, 177, 0, 0, 0, 0]), (.istore 7, 0, [7]), (.aload_n 0, 0, [0]), (.iload 7, 0, [7]), (.bipush 34, 34, []), (.iload_n 2, 0, [2]), (.invokevirtual 618, 0, [318, 16, 33, 201, 0, 100, 0, 0, 0]), (.aload_n 0, 0, [0]), (.iload_n 1, 0, [1]), (.ldc2_w 662, 1751672161, []), (.iload 7, 0, [7]), (.invokevirtual 658, 0, [319, 16, 33, 175, 0, 100, 0, 5, 0]), (.aload_n 0, 0, [0]), (.invokevirtual 672, 0, [321, 16, 33, 160, 0, 3]), (.ifCond .eq 8, 0, [241]), (.iload 5, 0, [5]), (.goto 5, 0, [243])]
def s391_241 : List E := [(.bipush (-4), -4, []), (.nop, 0, [243])]
def s391_243 : List E := [(.ireturn, 0, [])]
def cd391 : List (Nat × List E) := [(0, s391_0), (12, s391_12), (25, s391_25), (28, s391_28), (41, s391_41), (73, s391_73), (79, s391_79), (110, s391_110), (143, s391_143), (161, s391_161), (167, s391_167), (184, s391_184), (241, s391_241), (243, s391_243)]
theorem l391_0 : lkc cd391 0 = s391_0 := rfl
theorem l391_12 : lkc cd391 12 = s391_12 := rfl
theorem l391_25 : lkc cd391 25 = s391_25 := rfl
theorem l391_28 : lkc cd391 28 = s391_28 := rfl
theorem l391_41 : lkc cd391 41 = s391_41 := rfl
theorem l391_73 : lkc cd391 73 = s391_73 := rfl
theorem l391_79 : lkc cd391 79 = s391_79 := rfl
theorem l391_110 : lkc cd391 110 = s391_110 := rfl
theorem l391_143 : lkc cd391 143 = s391_143 := rfl
theorem l391_161 : lkc cd391 161 = s391_161 := rfl
theorem l391_167 : lkc cd391 167 = s391_167 := rfl
theorem l391_184 : lkc cd391 184 = s391_184 := rfl
theorem l391_241 : lkc cd391 241 = s391_241 := rfl
theorem l391_243 : lkc cd391 243 = s391_243 := rfl
theorem k391 : chkM 391 16 true cd391 = true := by decide +kernel
/- FontHouseModel.form(II)I -/
def s392_0 : List E := [(.aload_n 0, 0, [0]), (.iload_n 1, 0, [1]), (.invokevirtual 887, 0, [377, 16, 33, 8, 0, 0, 0]), (.istore_n 3, 0, [3]), (.iload_n 3, 0, [3]), (.ifCond .ge 5, 0, [12]), (.iload_n 3, 0, [3]), (.ireturn, 0, [])]
def s392_12 : List E := [(.iload_n 2, 0, [2]), (.ifCond .lt 8, 0, [21]), (.iload_n 2, 0, [2]), (.iconst 1, 1, []), (.if_icmp .le 6, 0, [24]), (.nop, 0, [21])]
def s392_21 : List E := [(.bipush (-2), -2, []), (.ireturn, 0, [])]
def s392_24 : List E := [(.aload_n 0, 0, [0]), (.iload_n 1, 0, [1]), (.ldc2_w 670, 1819239265, []), (.invokevirtual 762, 0, [346, 16, 33, 176, 0, 0, 5, 0]), (.istore 4, 0, [4]), (.iconst 0, 0, []), (.istore 5, 0, [5]), (.nop, 0, [37])]
def s392_37 : List E := [(.iload 5, 0, [5]), (.aload_n 0, 0, [0]), (.getfield 782, 0, [16, 70, 0]), (.if_icmp .gt 37, 0, [80]), (.iload_n 2, 0, [2]), (.ifCond .ne 33, 0, [80]), (.aload_n 0, 0, [0]), (.iload 4, 0, [4]), (.aload_n 0, 0, [0]), (.getfield 779, 0, [16, 72, 0]), (.iload 5, 0, [5]), (.invokevirtual 788, 0, [363, 16, 33, 135, 0, 5, 0, 0, 0]), (.ldc2_w 529, 2, []), (.lrem, 0, []), (.lconst 0, 0, []), (.lcmp, 0, []), (.ifCond .eq 6, 0, [74]), (.bipush (-3), -3, []), (.ireturn, 0, [])]
def s392_74 : List E := [(.iinc 5 1, 1, [5]), (.goto (-40), 0, [37])]
def s392_80 : List E := [(.aload_n 0, 0, [0]), (.invokevirtual 643, 0, [313, 16, 33, 180, 0, 100]), (.aload_n 0, 0, [0]), (.getfield 779, 0, [16, 72, 0]), (.istore 5, 0, [5]), (.aload_n 0, 0, [0]), (.aload_n 0, 0, [0]), (.getfield 782, 0, [16, 70, 0]), (.iconst 1, 1, []), (.iadd, 0, []), (.iload_n 2, 0, [2]), (.ifCond .ne 7, 0, [105]), (.iconst 2, 2, []), (.goto 4, 0, [106])]
def s392_105 : List E := [(.iconst 4, 4, []), (.nop, 0, [106])]
def s392_106 : List E := [(.imul, 0, []), (.invokevirtual 621, 0, [316, 16, 33, 201, 0, 0, 0]), (.istore 6, 0, [6]), (.iconst 0, 0, []), (.istore 7, 0, [7]), (.nop, 0, [115])]
def s392_115 : List E := [(.iload 7, 0, [7]), (.aload_n 0, 0, [0]), (.getfield 782, 0, [16, 70, 0]), (.if_icmp .gt 28, 0, [149]), (.aload_n 0, 0, [0]), (.iload 6, 0, [6]), (.iload_n 2, 0, [2]), (.iload 7, 0, [7]), (.aload_n 0, 0, [0]), (.iload 4, 0, [4]), (.iload 5, 0, [5]), (.iload 7, 0, [7]), (.invokevirtual 788, 0, [363, 16, 33, 135, 0, 5, 0, 0, 0]), (.invokevirtual 912, 0, [393, 16, 33, 152, 0, 100, 5, 0, 0, 0]), (.iinc 7 1, 1, [7]), (.goto (-31), 0, [115])]
def s392_149 : List E := [(.aload_n 0, 0, [0]), (.iload_n 1, 0, [1]), (.ldc2_w 670, 1819239265, []), (.iload 6, 0, [6]), (.invokevirtual 658, 0, [319, 16, 33, 175, 0, 100, 0, 5, 0]), (.aload_n 0, 0, [0]), (.aload_n 0, 0, [0]), (.iload_n 1, 0, [1]), (.ldc2_w 656, 1751474532, []), (.invokevirtual 762, 0, [346, 16, 33, 176, 0, 0, 5, 0]), (.bipush 54, 54, []), (.invokevirtual 909, 0, [390, 16, 33, 177, 0, 0, 0, 0]), (.istore 7, 0, [7]), (.aload_n 0, 0, [0]), (.iload 7, 0, [7]), (.bipush 50, 50, []), (.iload_n 2, 0, [2]), (.invokevirtual 618, 0, [318, 16, 33, 201, 0, 100, 0, 0, 0]), (.aload_n 0, 0, [0]), (.iload_n 1, 0, [1]), (.ldc2_w 656, 1751474532, []), (.iload 7, 0, [7]), (.invokevirtual 658, 0, [319, 16, 33, 175, 0, 100, 0, 5, 0]), (.aload_n 0, 0, [0]), (.invokevirtual 672, 0, [321, 16, 33, 160, 0, 3]), (.ifCond .eq 8, 0, [206]), (.iload 5, 0, [5]), (.goto 5, 0, [208])]
def s392_206 : List E := [(.bipush (-4), -4, []), (.nop, 0, [208])]
def s392_208 : List E := [(.ireturn, 0, [])]
def cd392 : List (Nat × List E) := [(0, s392_0), (12, s392_12), (21, s392_21), (24, s392_24), (37, s392_37), (74, s392_74), (80, s392_80), (105, s392_105), (106, s392_106), (115, s392_115), (149, s392_149), (206, s392_206), (208, s392_208)]
theorem l392_0 : lkc cd392 0 = s392_0 := rfl
theorem l392_12 : lkc cd392 12 = s392_12 := rfl
theorem l392_21 : lkc cd392 21 = s392_21 := rfl
theorem l392_24 : lkc cd392 24 = s392_24 := rfl
theorem l392_37 : lkc cd392 37 = s392_37 := rfl
theorem l392_74 : lkc cd392 74 = s392_74 := rfl
theorem l392_80 : lkc cd392 80 = s392_80 := rfl
theorem l392_105 : lkc cd392 105 = s392_105 := rfl
theorem l392_106 : lkc cd392 106 = s392_106 := rfl
theorem l392_115 : lkc cd392 115 = s392_115 := rfl
theorem l392_149 : lkc cd392 149 = s392_149 := rfl
theorem l392_206 : lkc cd392 206 = s392_206 := rfl
theorem l392_208 : lkc cd392 208 = s392_208 := rfl
theorem k392 : chkM 392 16 true cd392 = true := by decide +kernel
/- FontHouseModel.setLoca(IIIJ)V -/
def s393_0 : List E := [(.iload_n 2, 0, [2]), (.ifCond .ne 21, 0, [22]), (.aload_n 0, 0, [0]), (.iload_n 1, 0, [1]), (.iconst 2, 2, []), (.iload_n 3, 0, [3]), (.imul, 0, []), (.lload 4, 0, [4]), (.ldc2_w 529, 2, []), (.ldiv, 0, []), (.l2i, 0, []), (.invokevirtual 618, 0, [318, 16, 33, 32, 0, 100, 0, 0, 0]), (.goto 13, 0, [32])]
def s393_22 : List E := [(.aload_n 0, 0, [0]), (.iload_n 1, 0, [1]), (.iconst 4, 4, []), (.iload_n 3, 0, [3]), (.imul, 0, []), (.lload 4, 0, [4]), (.invokevirtual 648, 0, [317, 16, 33, 8, 0, 100, 5, 0, 0]), (.nop, 0, [32])]
def s393_32 : List E := [(.return_, 0, [])]
def cd393 : List (Nat × List E) := [(0, s393_0), (22, s393_22), (32, s393_32)]
theorem l393_0 : lkc cd393 0 = s393_0 := rfl
theorem l393_22 : lkc cd393 22 = s393_22 := rfl
theorem l393_32 : lkc cd393 32 = s393_32 := rfl
theorem k393 : chkM 393 16 true cd393 = true := by decide +kernel
/- FontHouseModel.clear()I -/
def s394_0 : List E := [(.aload_n 0, 0, [0]), (.getfield 916, 0, [16, 99, 0]), (.aload_n 0, 0, [0]), (.getfield 919, 0, [16, 101, 0]), (.iadd, 0, []), (.istore_n 1, 0, [1]), (.aload_n 0, 0, [0]), (.iconst 0, 0, []), (.putfield 922, 0, [16, 98, 0]), (.aload_n 0, 0, [0]), (.iconst 0, 0, []), (.putfield 916, 0, [16, 99, 0]), (.aload_n 0, 0, [0]), (.iconst 0, 0, []), (.putfield 925, 0, [16, 100, 3]), (.aload_n 0, 0, [0]), (.iconst 0, 0, []), (.putfield 919, 0, [16, 101, 0]), (.aload_n 0, 0, [0]), (.iconst 0, 0, []), (.putfield 928, 0, [16, 102, 0]), (.aload_n 0, 0, [0]), (.iconst 0, 0, []), (.putfield 931, 0, [16, 103, 3]), (.aload_n 0, 0, [0]), (.iconst 0, 0, []), (.putfield 934, 0, [16, 104, 3]), (.iload_n 1, 0, [1]), (.ireturn, 0, [])]
def cd394 : List (Nat × List E) := [(0, s394_0)]
theorem l394_0 : lkc cd394 0 = s394_0 := rfl
theorem k394 : chkM 394 16 true cd394 = true := by decide +kernel
/- FontHouseModel.spot(IIZ)I -/
def s395_0 : List E := [(.aload_n 0, 0, [0]), (.getfield 916, 0, [16, 99, 0]), (.ifCond .le 17, 0, [21]), (.aload_n 0, 0, [0]), (.getfield 226, 69, [16, 107, 81, 1]), (.aload_n 0, 0, [0]), (.getfield 916, 0, [16, 99, 0]), (.iconst 1, 1, []), (.isub, 0, []), (.iaload, 0, []), (.goto 4, 0, [22])]
def s395_21 : List E := [(.iconst 0, 0, []), (.nop, 0, [22])]
def s395_22 : List E := [(.istore 4, 0, [4]), (.aload_n 0, 0, [0]), (.getfield 916, 0, [16, 99, 0]), (.ifCond .le 17, 0, [45]), (.aload_n 0, 0, [0]), (.getfield 229, 70, [16, 108, 81, 1]), (.aload_n 0, 0, [0]), (.getfield 916, 0, [16, 99, 0]), (.iconst 1, 1, []), (.isub, 0, []), (.iaload, 0, []), (.goto 4, 0, [46])]
def s395_45 : List E := [(.iconst 0, 0, []), (.nop, 0, [46])]
def s395_46 : List E := [(.istore 5, 0, [5]), (.iload_n 1, 0, [1]), (.invokestatic 937, 0, [396, 8, 0, 3, 0]), (.ifCond .eq 30, 0, [82]), (.iload_n 2, 0, [2]), (.invokestatic 937, 0, [396, 8, 0, 3, 0]), (.ifCond .eq 23, 0, [82]), (.iload_n 1, 0, [1]), (.iload 4, 0, [4]), (.isub, 0, []), (.invokestatic 937, 0, [396, 8, 0, 3, 0]), (.ifCond .eq 13, 0, [82]), (.iload_n 2, 0, [2]), (.iload 5, 0, [5]), (.isub, 0, []), (.invokestatic 937, 0, [396, 8, 0, 3, 0]), (.ifCond .ne 6, 0, [85]), (.nop, 0, [82])]
def s395_82 : List E := [(.bipush (-2), -2, []), (.ireturn, 0, [])]
def s395_85 : List E := [(.aload_n 0, 0, [0]), (.getfield 916, 0, [16, 99, 0]), (.sipush 256, 256, []), (.if_icmp .eq 19, 0, [111]), (.aload_n 0, 0, [0]), (.getfield 925, 0, [16, 100, 3]), (.ifCond .ne 15, 0, [114]), (.aload_n 0, 0, [0]), (.getfield 922, 0, [16, 98, 0]), (.bipush 32, 32, []), (.if_icmp .ne 6, 0, [114]), (.nop, 0, [111])]
def s395_111 : List E := [(.bipush (-4), -4, []), (.ireturn, 0, [])]
def s395_114 : List E := [(.aload_n 0, 0, [0]), (.getfield 925, 0, [16, 100, 3]), (.ifCond .ne 18, 0, [136]), (.aload_n 0, 0, [0]), (.iconst 1, 1, []), (.putfield 925, 0, [16, 100, 3]), (.aload_n 0, 0, [0]), (.dup, 0, []), (.getfield 922, 0, [16, 98, 0]), (.iconst 1, 1, []), (.iadd, 0, []), (.putfield 922, 0, [16, 98, 0]), (.nop, 0, [136])]
def s395_136 : List E := [(.aload_n 0, 0, [0]), (.getfield 226, 69, [16, 107, 81, 1]), (.aload_n 0, 0, [0]), (.getfield 916, 0, [16, 99, 0]), (.iload_n 1, 0, [1]), (.iastore, 0, []), (.aload_n 0, 0, [0]), (.getfield 229, 70, [16, 108, 81, 1]), (.aload_n 0, 0, [0]), (.getfield 916, 0, [16, 99, 0]), (.iload_n 2, 0, [2]), (.iastore, 0, []), (.aload_n 0, 0, [0]), (.getfield 232, 71, [16, 109, 89, 1]), (.aload_n 0, 0, [0]), (.getfield 916, 0, [16, 99, 0]), (.iload_n 3, 0, [3]), (.bastore, 0, []), (.aload_n 0, 0, [0]), (.getfield 223, 68, [16, 106, 81, 1]), (.aload_n 0, 0, [0]), (.getfield 922, 0, [16, 98, 0]), (.iconst 1, 1, []), (.isub, 0, []), (.aload_n 0, 0, [0]), (.getfield 916, 0, [16, 99, 0]), (.iastore, 0, []), (.aload_n 0, 0, [0]), (.dup, 0, []), (.getfield 916, 0, [16, 99, 0]), (.iconst 1, 1, []), (.iadd, 0, []), (.putfield 916, 0, [16, 99, 0]), (.aload_n 0, 0, [0]), (.getfield 916, 0, [16, 99, 0]), (.ireturn, 0, [])]
def cd395 : List (Nat × List E) := [(0, s395_0), (21, s395_21), (22, s395_22), (45, s395_45), (46, s395_46), (82, s395_82), (85, s395_85), (111, s395_111), (114, s395_114), (136, s395_136)]
theorem l395_0 : lkc cd395 0 = s395_0 := rfl
theorem l395_21 : lkc cd395 21 = s395_21 := rfl
theorem l395_22 : lkc cd395 22 = s395_22 := rfl
theorem l395_45 : lkc cd395 45 = s395_45 := rfl
theorem l395_46 : lkc cd395 46 = s395_46 := rfl
theorem l395_82 : lkc cd395 82 = s395_82 := rfl
theorem l395_85 : lkc cd395 85 = s395_85 := rfl
theorem l395_111 : lkc cd395 111 = s395_111 := rfl
theorem l395_114 : lkc cd395 114 = s395_114 := rfl
theorem l395_136 : lkc cd395 136 = s395_136 := rfl
theorem k395 : chkM 395 16 true cd395 = true := by decide +kernel
/- FontHouseModel.isShort(I)Z -/
def s396_0 : List E := [(.iload_n 0, 0, [0]), (.sipush (-32768), -32768, []), (.if_icmp .lt 14, 0, [18]), (.iload_n 0, 0, [0]), (.sipush 32767, 32767, []), (.if_icmp .gt 7, 0, [18]), (.iconst 1, 1, []), (.goto 4, 0, [19])]
def s396_18 : List E := [(.iconst 0, 0, []), (.nop, 0, [19])]
def s396_19 : List E := [(.ireturn, 0, [1])]
def cd396 : List (Nat × List E) := [(0, s396_0), (18, s396_18), (19, s396_19)]
theorem l396_0 : lkc cd396 0 = s396_0 := rfl
theorem l396_18 : lkc cd396 18 = s396_18 := rfl
theorem l396_19 : lkc cd396 19 = s396_19 := rfl
theorem k396 : chkM 396 16 true cd396 = true := by decide +kernel
/- FontHouseModel.shut()I -/
def s397_0 : List E := [(.aload_n 0, 0, [0]), (.getfield 925, 0, [16, 100, 3]), (.ifCond .ne 6, 0, [10]), (.bipush (-3), -3, []), (.ireturn, 0, [])]
def s397_10 : List E := [(.aload_n 0, 0, [0]), (.iconst 0, 0, []), (.putfield 925, 0, [16, 100, 3]), (.aload_n 0, 0, [0]), (.getfield 922, 0, [16, 98, 0]), (.ireturn, 0, [])]
def cd397 : List (Nat × List E) := [(0, s397_0), (10, s397_10)]
theorem l397_0 : lkc cd397 0 = s397_0 := rfl
theorem l397_10 : lkc cd397 10 = s397_10 := rfl
theorem k397 : chkM 397 16 true cd397 = true := by decide +kernel
/- FontHouseModel.add(IIIIJ)I -/
def s398_0 : List E := [(.iload_n 1, 0, [1]), (.sipush 200, 200, []), (.iand, 0, []), (.istore 7, 0, [7]), (.iload_n 1, 0, [1]), (.iconst 1, 1, []), (.iand, 0, []), (.ifCond .le 7, 0, [17]), (.iconst 1, 1, []), (.goto 4, 0, [18])]
def s398_17 : List E := [(.iconst 0, 0, []), (.nop, 0, [18])]
def s398_18 : List E := [(.istore 8, 0, [8]), (.iload_n 1, 0, [1]), (.ifCond .lt 44, 0, [65]), (.iload_n 1, 0, [1]), (.ldc_w 908, 65535, []), (.if_icmp .gt 37, 0, [65]), (.iload_n 1, 0, [1]), (.bipush 32, 32, []), (.iand, 0, []), (.ifCond .gt 30, 0, [65]), (.iload 7, 0, [7]), (.ifCond .eq 28, 0, [68]), (.iload 7, 0, [7]), (.bipush 8, 8, []), (.if_icmp .eq 21, 0, [68]), (.iload 7, 0, [7]), (.bipush 64, 64, []), (.if_icmp .eq 14, 0, [68]), (.iload 7, 0, [7]), (.sipush 128, 128, []), (.if_icmp .eq 6, 0, [68]), (.nop, 0, [65])]
def s398_65 : List E := [(.bipush (-2), -2, []), (.ireturn, 0, [])]
def s398_68 : List E := [(.iload 8, 0, [8]), (.ifCond .eq 9, 0, [79]), (.sipush (-32768), -32768, []), (.goto 5, 0, [81])]
def s398_79 : List E := [(.bipush (-128), -128, []), (.nop, 0, [81])]
def s398_81 : List E := [(.istore 9, 0, [9]), (.iload 8, 0, [8]), (.ifCond .eq 9, 0, [94]), (.sipush 32767, 32767, []), (.goto 5, 0, [96])]
def s398_94 : List E := [(.bipush 127, 127, []), (.nop, 0, [96])]
def s398_96 : List E := [(.istore 10, 0, [10]), (.iload_n 3, 0, [3]), (.iload 9, 0, [9]), (.if_icmp .lt 33, 0, [134]), (.iload_n 3, 0, [3]), (.iload 10, 0, [10]), (.if_icmp .gt 27, 0, [134]), (.iload 4, 0, [4]), (.iload 9, 0, [9]), (.if_icmp .lt 20, 0, [134]), (.iload 4, 0, [4]), (.iload 10, 0, [10]), (.if_icmp .gt 13, 0, [134]), (.iload_n 2, 0, [2]), (.ifCond .lt 9, 0, [134]), (.iload_n 2, 0, [2]), (.bipush 63, 63, []), (.if_icmp .le 6, 0, [137]), (.nop, 0, [134])]
def s398_134 : List E := [(.bipush (-2), -2, []), (.ireturn, 0, [])]
def s398_137 : List E := [(.aload_n 0, 0, [0]), (.getfield 919, 0, [16, 101, 0]), (.bipush 16, 16, []), (.if_icmp .ne 6, 0, [149]), (.bipush (-4), -4, []), (.ireturn, 0, [])]
def s398_149 : List E := [(.aload_n 0, 0, [0]), (.getfield 235, 72, [16, 110, 81, 1]), (.aload_n 0, 0, [0]), (.getfield 919, 0, [16, 101, 0]), (.iload_n 1, 0, [1]), (.iastore, 0, []), (.aload_n 0, 0, [0]), (.getfield 238, 73, [16, 111, 81, 1]), (.aload_n 0, 0, [0]), (.getfield 919, 0, [16, 101, 0]), (.iload_n 2, 0, [2]), (.iastore, 0, []), (.aload_n 0, 0, [0]), (.getfield 241, 74, [16, 112, 81, 1]), (.aload_n 0, 0, [0]), (.getfield 919, 0, [16, 101, 0]), (.iload_n 3, 0, [3]), (.iastore, 0, []), (.aload_n 0, 0, [0]), (.getfield 244, 75, [16, 113, 81, 1]), (.aload_n 0, 0, [0]), (.getfield 919, 0, [16, 101, 0]), (.iload 4, 0, [4]), (.iastore, 0, []), (.aload_n 0, 0, [0]), (.getfield 247, 76, [16, 114, 81, 1]), (.aload_n 0, 0, [0]), (.getfield 919, 0, [16, 101, 0]), (.iload 7, 0, [7]), (.bipush 8, 8, []), (.if_icmp .ne 7, 0, [209]), (.iconst 1, 1, []), (.goto 27, 0, [233])]
def s398_209 : List E := [(.iload 7, 0, [7]), (.bipush 64, 64, []), (.if_icmp .ne 7, 0, [220]), (.iconst 2, 2, []), (.goto 16, 0, [233])]
def s398_220 : List E := [(.iload 7, 0, [7]), (.sipush 128, 128, []), (.if_icmp .ne 7, 0, [232]), (.iconst 4, 4, []), (.goto 4, 0, [233])]
def s398_232 : List E := [(.iconst 0, 0, []), (.nop, 0, [233])]
def s398_233 : List E := [(.iastore, 0, []), (.iconst 0, 0, []), (.istore 11, 0, [11]), (.nop, 0, [237])]
def s398_237 : List E := [(.iload 11, 0, [11]), (.iconst 4, 4, []), (.if_icmp .ge 54, 0, [294]), (.aload_n 0, 0, [0]), (.getfield 250, 77, [16, 115, 81, 1]), (.iconst 4, 4, []), (.aload_n 0, 0, [0]), (.getfield 919, 0, [16, 101, 0]), (.imul, 0, []), (.iload 11, 0, [11]), (.iadd, 0, []), (.iload 11, 0, [11]), (.aload_n 0, 0, [0]), (.getfield 247, 76, [16, 114, 81, 1]), (.aload_n 0, 0, [0]), (.getfield 919, 0, [16, 101, 0]), (.iaload, 0, []), (.if_icmp .ge 19, 0, [286]), (.lload 5, 0, [5]), (.bipush 16, 16, []), (.iload 11, 0, [11]), (.imul, 0, []), (.lshr, 0, []), (.l2i, 0, []), (.ldc_w 908, 65535, []), (.iand, 0, []), (.goto 4, 0, [287])]
def s398_286 : List E := [(.iconst 0, 0, []), (.nop, 0, [287])]
def s398_287 : List E := [(.iastore, 0, []), (.iinc 11 1, 1, [11]), (.goto (-54), 0, [237])]
def s398_294 : List E := [(.aload_n 0, 0, [0]), (.dup, 0, []), (.getfield 919, 0, [16, 101, 0]), (.iconst 1, 1, []), (.iadd, 0, []), (.putfield 919, 0, [16, 101, 0]), (.aload_n 0, 0, [0]), (.getfield 919, 0, [16, 101, 0]), (.ireturn, 0, [])]
def cd398 : List (Nat × List E) := [(0, s398_0), (17, s398_17), (18, s398_18), (65, s398_65), (68, s398_68), (79, s398_79), (81, s398_81), (94, s398_94), (96, s398_96), (134, s398_134), (137, s398_137), (149, s398_149), (209, s398_209), (220, s398_220), (232, s398_232), (233, s398_233), (237, s398_237), (286, s398_286), (287, s398_287), (294, s398_294)]
theorem l398_0 : lkc cd398 0 = s398_0 := rfl
theorem l398_17 : lkc cd398 17 = s398_17 := rfl
theorem l398_18 : lkc cd398 18 = s398_18 := rfl
theorem l398_65 : lkc cd398 65 = s398_65 := rfl
theorem l398_68 : lkc cd398 68 = s398_68 := rfl
theorem l398_79 : lkc cd398 79 = s398_79 := rfl
theorem l398_81 : lkc cd398 81 = s398_81 := rfl
theorem l398_94 : lkc cd398 94 = s398_94 := rfl
theorem l398_96 : lkc cd398 96 = s398_96 := rfl
theorem l398_134 : lkc cd398 134 = s398_134 := rfl
theorem l398_137 : lkc cd398 137 = s398_137 := rfl
theorem l398_149 : lkc cd398 149 = s398_149 := rfl
theorem l398_209 : lkc cd398 209 = s398_209 := rfl
theorem l398_220 : lkc cd398 220 = s398_220 := rfl
theorem l398_232 : lkc cd398 232 = s398_232 := rfl
theorem l398_233 : lkc cd398 233 = s398_233 := rfl
theorem l398_237 : lkc cd398 237 = s398_237 := rfl
theorem l398_286 : lkc cd398 286 = s398_286 := rfl
theorem l398_287 : lkc cd398 287 = s398_287 := rfl
theorem l398_294 : lkc cd398 294 = s398_294 := rfl
theorem k398 : chkM 398 16 true cd398 = true := by decide +kernel
/- FontHouseModel.op(I)I -/
def s399_0 : List E := [(.iload_n 1, 0, [1]), (.ifCond .lt 10, 0, [11]), (.iload_n 1, 0, [1]), (.sipush 255, 255, []), (.if_icmp .le 6, 0, [14]), (.nop, 0, [11])]
def s399_11 : List E := [(.bipush (-2), -2, []), (.ireturn, 0, [])]
def s399_14 : List E := [(.aload_n 0, 0, [0]), (.getfield 928, 0, [16, 102, 0]), (.sipush 300, 300, []), (.if_icmp .ne 6, 0, [27]), (.bipush (-4), -4, []), (.ireturn, 0, [])]
def s399_27 : List E := [(.aload_n 0, 0, [0]), (.getfield 253, 78, [16, 116, 83, 1]), (.aload_n 0, 0, [0]), (.getfield 928, 0, [16, 102, 0]), (.iload_n 1, 0, [1]), (.i2b, 0, []), (.bastore, 0, [41]), (.aload_n 0, 0, [0]), (.dup, 0, []), (.getfield 928, 0, [16, 102, 0]), (.iconst 1, 1, []), (.iadd, 0, []), (.putfield 928, 0, [16, 102, 0]), (.aload_n 0, 0, [0]), (.getfield 928, 0, [16, 102, 0]), (.ireturn, 0, [])]
def cd399 : List (Nat × List E) := [(0, s399_0), (11, s399_11), (14, s399_14), (27, s399_27)]
theorem l399_0 : lkc cd399 0 = s399_0 := rfl
theorem l399_11 : lkc cd399 11 = s399_11 := rfl
theorem l399_14 : lkc cd399 14 = s399_14 := rfl
theorem l399_27 : lkc cd399 27 = s399_27 := rfl
theorem k399 : chkM 399 16 true cd399 = true := by decide +kernel
/- FontHouseModel.box(JZ)I -/
def s400_0 : List E := [(.aload_n 0, 0, [0]), (.getfield 934, 0, [16, 104, 3]), (.ifCond .eq 7, 0, [11]), (.iconst 1, 1, []), (.goto 4, 0, [12])]
def s400_11 : List E := [(.iconst 0, 0, []), (.nop, 0, [12])]
def s400_12 : List E := [(.istore 4, 0, [4]), (.aload_n 0, 0, [0]), (.iload_n 3, 0, [3]), (.putfield 934, 0, [16, 104, 3]), (.iconst 0, 0, []), (.istore 5, 0, [5]), (.nop, 0, [22])]
def s400_22 : List E := [(.iload 5, 0, [5]), (.iconst 4, 4, []), (.if_icmp .ge 29, 0, [54]), (.iload_n 3, 0, [3]), (.ifCond .eq 25, 0, [54]), (.aload_n 0, 0, [0]), (.getfield 220, 67, [16, 105, 81, 1]), (.iload 5, 0, [5]), (.lload_n 1, 0, [1]), (.bipush 16, 16, []), (.iload 5, 0, [5]), (.imul, 0, []), (.lshr, 0, []), (.l2i, 0, []), (.i2s, 0, []), (.iastore, 0, []), (.iinc 5 1, 1, [5]), (.goto (-29), 0, [22])]
def s400_54 : List E := [(.iload 4, 0, [4]), (.ireturn, 0, [])]
def cd400 : List (Nat × List E) := [(0, s400_0), (11, s400_11), (12, s400_12), (22, s400_22), (54, s400_54)]
theorem l400_0 : lkc cd400 0 = s400_0 := rfl
theorem l400_11 : lkc cd400 11 = s400_11 := rfl
theorem l400_12 : lkc cd400 12 = s400_12 := rfl
theorem l400_22 : lkc cd400 22 = s400_22 := rfl
theorem l400_54 : lkc cd400 54 = s400_54 := rfl
theorem k400 : chkM 400 16 true cd400 = true := by decide +kernel
/- FontHouseModel.overlap(Z)Z -/
def s401_0 : List E := [(.aload_n 0, 0, [0]), (.getfield 931, 0, [16, 103, 3]), (.istore_n 2, 0, [2]), (.aload_n 0, 0, [0]), (.iload_n 1, 0, [1]), (.putfield 931, 0, [16, 103, 3]), (.iload_n 2, 0, [2]), (.ireturn, 0, [1])]
def cd401 : List (Nat × List E) := [(0, s401_0)]
theorem l401_0 : lkc cd401 0 = s401_0 := rfl
theorem k401 : chkM 401 16 true cd401 = true := by decide +kernel
/- FontHouseModel.lay(II)I -/
def s402_0 : List E := [(.aload_n 0, 0, [0]), (.iload_n 1, 0, [1]), (.invokevirtual 887, 0, [377, 16, 33, 8, 0, 0, 0]), (.istore_n 3, 0, [3]), (.iload_n 3, 0, [3]), (.ifCond .ge 5, 0, [12]), (.iload_n 3, 0, [3]), (.ireturn, 0, [])]
def s402_12 : List E := [(.iload_n 2, 0, [2]), (.ifCond .lt 11, 0, [24]), (.iload_n 2, 0, [2]), (.aload_n 0, 0, [0]), (.getfield 782, 0, [16, 70, 0]), (.if_icmp .le 5, 0, [26]), (.nop, 0, [24])]
def s402_24 : List E := [(.iconst (-1), -1, []), (.ireturn, 0, [])]
def s402_26 : List E := [(.iload_n 2, 0, [2]), (.aload_n 0, 0, [0]), (.getfield 782, 0, [16, 70, 0]), (.if_icmp .ne 7, 0, [38]), (.iconst 1, 1, []), (.goto 4, 0, [39])]
def s402_38 : List E := [(.iconst 0, 0, []), (.nop, 0, [39])]
def s402_39 : List E := [(.istore 4, 0, [4]), (.iload 4, 0, [4]), (.ifCond .eq 12, 0, [55]), (.aload_n 0, 0, [0]), (.getfield 782, 0, [16, 70, 0]), (.iconst 1, 1, []), (.iadd, 0, []), (.goto 7, 0, [59])]
def s402_55 : List E := [(.aload_n 0, 0, [0]), (.getfield 782, 0, [16, 70, 0]), (.nop, 0, [59])]
def s402_59 : List E := [(.istore 5, 0, [5]), (.aload_n 0, 0, [0]), (.iload 5, 0, [5]), (.invokevirtual 942, 0, [403, 16, 33, 202, 0, 3, 0]), (.ifCond .ne 6, 0, [73]), (.bipush (-3), -3, []), (.ireturn, 0, [])]
def s402_73 : List E := [(.iload 5, 0, [5]), (.bipush 64, 64, []), (.if_icmp .le 6, 0, [83]), (.bipush (-4), -4, []), (.ireturn, 0, [])]
def s402_83 : List E := [(.aload_n 0, 0, [0]), (.iload_n 1, 0, [1]), (.ldc2_w 666, 1735162214, []), (.invokevirtual 762, 0, [346, 16, 33, 176, 0, 0, 5, 0]), (.istore 6, 0, [6]), (.aload_n 0, 0, [0]), (.iload_n 1, 0, [1]), (.iload_n 2, 0, [2]), (.invokevirtual 890, 0, [382, 16, 33, 113, 0, 0, 0, 0]), (.istore 7, 0, [7]), (.iload 4, 0, [4]), (.ifCond .eq 8, 0, [111]), (.iload 7, 0, [7]), (.goto 11, 0, [119])]
def s402_111 : List E := [(.aload_n 0, 0, [0]), (.iload_n 1, 0, [1]), (.iload_n 2, 0, [2]), (.iconst 1, 1, []), (.iadd, 0, []), (.invokevirtual 890, 0, [382, 16, 33, 113, 0, 0, 0, 0]), (.nop, 0, [119])]
def s402_119 : List E := [(.istore 8, 0, [8]), (.aload_n 0, 0, [0]), (.invokevirtual 945, 0, [404, 16, 33, 182, 0, 100]), (.aload_n 0, 0, [0]), (.iconst 0, 0, []), (.putfield 860, 0, [16, 96, 0]), (.aload_n 0, 0, [0]), (.invokevirtual 948, 0, [406, 16, 33, 117, 0, 100]), (.aload_n 0, 0, [0]), (.getfield 126, 36, [16, 51, 81, 1]), (.iload 6, 0, [6]), (.iaload, 0, []), (.iload 8, 0, [8]), (.iload 7, 0, [7]), (.isub, 0, []), (.isub, 0, []), (.aload_n 0, 0, [0]), (.getfield 860, 0, [16, 96, 0]), (.iadd, 0, []), (.istore 9, 0, [9]), (.iload 9, 0, [9]), (.sipush 12000, 12000, []), (.if_icmp .le 6, 0, [165]), (.bipush (-4), -4, []), (.ireturn, 0, [])]
def s402_165 : List E := [(.aload_n 0, 0, [0]), (.invokevirtual 643, 0, [313, 16, 33, 180, 0, 100]), (.aload_n 0, 0, [0]), (.iload_n 1, 0, [1]), (.ldc2_w 670, 1819239265, []), (.invokevirtual 762, 0, [346, 16, 33, 176, 0, 0, 5, 0]), (.istore 10, 0, [10]), (.aload_n 0, 0, [0]), (.getfield 779, 0, [16, 72, 0]), (.istore 11, 0, [11]), (.aload_n 0, 0, [0]), (.iload 9, 0, [9]), (.invokevirtual 621, 0, [316, 16, 33, 201, 0, 0, 0]), (.istore 12, 0, [12]), (.iconst 0, 0, []), (.istore 13, 0, [13]), (.nop, 0, [196])]
def s402_196 : List E := [(.iload 13, 0, [13]), (.iload 7, 0, [7]), (.if_icmp .ge 37, 0, [237]), (.aload_n 0, 0, [0]), (.getfield 123, 35, [16, 50, 83, 1]), (.sipush 12000, 12000, []), (.iload 12, 0, [12]), (.imul, 0, []), (.iload 13, 0, [13]), (.iadd, 0, []), (.aload_n 0, 0, [0]), (.getfield 123, 35, [16, 50, 83, 1]), (.sipush 12000, 12000, []), (.iload 6, 0, [6]), (.imul, 0, []), (.iload 13, 0, [13]), (.iadd, 0, []), (.baload, 0, [41]), (.bastore, 0, [41]), (.iinc 13 1, 1, [13]), (.goto (-38), 0, [196])]
def s402_237 : List E := [(.iconst 0, 0, []), (.istore 13, 0, [13]), (.nop, 0, [240])]
def s402_240 : List E := [(.iload 13, 0, [13]), (.aload_n 0, 0, [0]), (.getfield 860, 0, [16, 96, 0]), (.if_icmp .ge 33, 0, [279]), (.aload_n 0, 0, [0]), (.getfield 123, 35, [16, 50, 83, 1]), (.sipush 12000, 12000, []), (.iload 12, 0, [12]), (.imul, 0, []), (.iload 7, 0, [7]), (.iadd, 0, []), (.iload 13, 0, [13]), (.iadd, 0, []), (.aload_n 0, 0, [0]), (.getfield 214, 65, [16, 95, 83, 1]), (.iload 13, 0, [13]), (.baload, 0, [41]), (.bastore, 0, [41]), (.iinc 13 1, 1, [13]), (.goto (-36), 0, [240])]
def s402_279 : List E := [(.iload 8, 0, [8]), (.istore 13, 0, [13]), (.nop, 0, [283])]
def s402_283 : List E := [(.iload 13, 0, [13]), (.aload_n 0, 0, [0]), (.getfield 126, 36, [16, 51, 81, 1]), (.iload 6, 0, [6]), (.iaload, 0, []), (.if_icmp .ge 48, 0, [340]), (.aload_n 0, 0, [0]), (.getfield 123, 35, [16, 50, 83, 1]), (.sipush 12000, 12000, []), (.iload 12, 0, [12]), (.imul, 0, []), (.iload 7, 0, [7]), (.iadd, 0, []), (.aload_n 0, 0, [0]), (.getfield 860, 0, [16, 96, 0]), (.iadd, 0, []), (.iload 13, 0, [13]), (.iadd, 0, []), (.iload 8, 0, [8]), (.isub, 0, []), (.aload_n 0, 0, [0]), (.getfield 123, 35, [16, 50, 83, 1]), (.sipush 12000, 12000, []), (.iload 6, 0, [6]), (.imul, 0, []), (.iload 13, 0, [13]), (.iadd, 0, []), (.baload, 0, [41]), (.bastore, 0, [41]), (.iinc 13 1, 1, [13]), (.goto (-54), 0, [283])]
def s402_340 : List E := [(.aload_n 0, 0, [0]), (.iload_n 1, 0, [1]), (.ldc2_w 666, 1735162214, []), (.iload 12, 0, [12]), (.invokevirtual 658, 0, [319, 16, 33, 175, 0, 100, 0, 5, 0]), (.aload_n 0, 0, [0]), (.iload 5, 0, [5]), (.iconst 1, 1, []), (.iadd, 0, []), (.iload 11, 0, [11]), (.ifCond .ne 7, 0, [364]), (.iconst 2, 2, []), (.goto 4, 0, [365])]
def s402_364 : List E := [(.iconst 4, 4, []), (.nop, 0, [365])]
def s402_365 : List E := [(.imul, 0, []), (.invokevirtual 621, 0, [316, 16, 33, 201, 0, 0, 0]), (.istore 13, 0, [13]), (.iconst 0, 0, []), (.istore 14, 0, [14]), (.nop, 0, [374])]
def s402_374 : List E := [(.iload 14, 0, [14]), (.iload 5, 0, [5]), (.if_icmp .gt 76, 0, [454]), (.iload 14, 0, [14]), (.iload_n 2, 0, [2]), (.if_icmp .gt 16, 0, [400]), (.aload_n 0, 0, [0]), (.iload 10, 0, [10]), (.iload 11, 0, [11]), (.iload 14, 0, [14]), (.invokevirtual 788, 0, [363, 16, 33, 135, 0, 5, 0, 0, 0]), (.goto 37, 0, [434])]
def s402_400 : List E := [(.iload 4, 0, [4]), (.ifCond .eq 9, 0, [411]), (.iload 9, 0, [9]), (.i2l, 0, []), (.goto 26, 0, [434])]
def s402_411 : List E := [(.aload_n 0, 0, [0]), (.iload 10, 0, [10]), (.iload 11, 0, [11]), (.iload 14, 0, [14]), (.invokevirtual 788, 0, [363, 16, 33, 135, 0, 5, 0, 0, 0]), (.aload_n 0, 0, [0]), (.getfield 860, 0, [16, 96, 0]), (.i2l, 0, []), (.ladd, 0, []), (.iload 8, 0, [8]), (.iload 7, 0, [7]), (.isub, 0, []), (.i2l, 0, []), (.lsub, 0, []), (.nop, 0, [434])]
def s402_434 : List E := [(.lstore 15, 0, [15]), (.aload_n 0, 0, [0]), (.iload 13, 0, [13]), (.iload 11, 0, [11]), (.iload 14, 0, [14]), (.lload 15, 0, [15]), (.invokevirtual 912, 0, [393, 16, 33, 152, 0, 100, 5, 0, 0, 0]), (.iinc 14 1, 1, [14]), (.goto (-77), 0, [374])]
def s402_454 : List E := [(.aload_n 0, 0, [0]), (.iload_n 1, 0, [1]), (.ldc2_w 670, 1819239265, []), (.iload 13, 0, [13]), (.invokevirtual 658, 0, [319, 16, 33, 175, 0, 100, 0, 5, 0]), (.iload 4, 0, [4]), (.ifCond .eq 82, 0, [548]), (.aload_n 0, 0, [0]), (.aload_n 0, 0, [0]), (.iload_n 1, 0, [1]), (.ldc2_w 664, 1835104368, []), (.invokevirtual 762, 0, [346, 16, 33, 176, 0, 0, 5, 0]), (.aload_n 0, 0, [0]), (.getfield 126, 36, [16, 51, 81, 1]), (.aload_n 0, 0, [0]), (.iload_n 1, 0, [1]), (.ldc2_w 664, 1835104368, []), (.invokevirtual 762, 0, [346, 16, 33, 176, 0, 0, 5, 0]), (.iaload, 0, []), (.invokevirtual 909, 0, [390, 16, 33, 177, 0, 0, 0, 0]), (.istore 14, 0, [14]), (.aload_n 0, 0, [0]), (.iload 14, 0, [14]), (.iconst 4, 4, []), (.iload 5, 0, [5]), (.invokevirtual 618, 0, [318, 16, 33, 201, 0, 100, 0, 0, 0]), (.aload_n 0, 0, [0]), (.iload_n 1, 0, [1]), (.ldc2_w 664, 1835104368, []), (.iload 14, 0, [14]), (.invokevirtual 658, 0, [319, 16, 33, 175, 0, 100, 0, 5, 0]), (.aload_n 0, 0, [0]), (.iload_n 1, 0, [1]), (.ldc2_w 668, 1752003704, []), (.invokevirtual 762, 0, [346, 16, 33, 176, 0, 0, 5, 0]), (.istore 15, 0, [15]), (.aload_n 0, 0, [0]), (.iload_n 1, 0, [1]), (.ldc2_w 668, 1752003704, []), (.aload_n 0, 0, [0]), (.iload 15, 0, [15]), (.aload_n 0, 0, [0]), (.getfield 126, 36, [16, 51, 81, 1]), (.iload 15, 0, [15]), (.iaload, 0, []), (.iconst 2, 2, []), (.iadd, 0, []), (.invokevirtual 909, 0, [390, 16, 33, 177, 0, 0, 0, 0]), (.invokevirtual 658, 0, [319, 16, 33, 175, 0, 100, 0, 5, 0]), (.nop, 0, [548])]
def s402_548 : List E := [(.aload_n 0, 0, [0]), (.invokevirtual 672, 0, [321, 16, 33, 160, 0, 3]), (.ifCond .eq 8, 0, [560]), (.iload 9, 0, [9]), (.goto 5, 0, [562])]
def s402_560 : List E := [(.bipush (-4), -4, []), (.nop, 0, [562])]
def s402_562 : List E := [(.ireturn, 0, [])]
def cd402 : List (Nat × List E) := [(0, s402_0), (12, s402_12), (24, s402_24), (26, s402_26), (38, s402_38), (39, s402_39), (55, s402_55), (59, s402_59), (73, s402_73), (83, s402_83), (111, s402_111), (119, s402_119), (165, s402_165), (196, s402_196), (237, s402_237), (240, s402_240), (279, s402_279), (283, s402_283), (340, s402_340), (364, s402_364), (365, s402_365), (374, s402_374), (400, s402_400), (411, s402_411), (434, s402_434), (454, s402_454), (548, s402_548), (560, s402_560), (562, s402_562)]
theorem l402_0 : lkc cd402 0 = s402_0 := rfl
theorem l402_12 : lkc cd402 12 = s402_12 := rfl
theorem l402_24 : lkc cd402 24 = s402_24 := rfl
theorem l402_26 : lkc cd402 26 = s402_26 := rfl
theorem l402_38 : lkc cd402 38 = s402_38 := rfl
theorem l402_39 : lkc cd402 39 = s402_39 := rfl
theorem l402_55 : lkc cd402 55 = s402_55 := rfl
theorem l402_59 : lkc cd402 59 = s402_59 := rfl
theorem l402_73 : lkc cd402 73 = s402_73 := rfl
theorem l402_83 : lkc cd402 83 = s402_83 := rfl
theorem l402_111 : lkc cd402 111 = s402_111 := rfl
theorem l402_119 : lkc cd402 119 = s402_119 := rfl
theorem l402_165 : lkc cd402 165 = s402_165 := rfl
theorem l402_196 : lkc cd402 196 = s402_196 := rfl
theorem l402_237 : lkc cd402 237 = s402_237 := rfl
theorem l402_240 : lkc cd402 240 = s402_240 := rfl
theorem l402_279 : lkc cd402 279 = s402_279 := rfl
theorem l402_283 : lkc cd402 283 = s402_283 := rfl
theorem l402_340 : lkc cd402 340 = s402_340 := rfl
theorem l402_364 : lkc cd402 364 = s402_364 := rfl
theorem l402_365 : lkc cd402 365 = s402_365 := rfl
theorem l402_374 : lkc cd402 374 = s402_374 := rfl
theorem l402_400 : lkc cd402 400 = s402_400 := rfl
theorem l402_411 : lkc cd402 411 = s402_411 := rfl
theorem l402_434 : lkc cd402 434 = s402_434 := rfl
theorem l402_454 : lkc cd402 454 = s402_454 := rfl
theorem l402_548 : lkc cd402 548 = s402_548 := rfl
theorem l402_560 : lkc cd402 560 = s402_560 := rfl
theorem l402_562 : lkc cd402 562 = s402_562 := rfl
theorem k402 : chkM 402 16 true cd402 = true := by decide +kernel
/- FontHouseModel.canBeLaid(I)Z -/
def s403_0 : List E := [(.aload_n 0, 0, [0]), (.getfield 925, 0, [16, 100, 3]), (.ifCond .ne 38, 0, [42]), (.aload_n 0, 0, [0]), (.getfield 916, 0, [16, 99, 0]), (.ifCond .le 10, 0, [21]), (.aload_n 0, 0, [0]), (.getfield 919, 0, [16, 101, 0]), (.ifCond .gt 24, 0, [42]), (.nop, 0, [21])]
def s403_21 : List E := [(.aload_n 0, 0, [0]), (.getfield 916, 0, [16, 99, 0]), (.ifCond .ne 19, 0, [44]), (.aload_n 0, 0, [0]), (.getfield 919, 0, [16, 101, 0]), (.ifCond .ne 12, 0, [44]), (.aload_n 0, 0, [0]), (.getfield 928, 0, [16, 102, 0]), (.ifCond .le 5, 0, [44]), (.nop, 0, [42])]
def s403_42 : List E := [(.iconst 0, 0, []), (.ireturn, 0, [1])]
def s403_44 : List E := [(.iconst 0, 0, []), (.istore_n 2, 0, [2]), (.nop, 0, [46])]
def s403_46 : List E := [(.iload_n 2, 0, [2]), (.aload_n 0, 0, [0]), (.getfield 919, 0, [16, 101, 0]), (.if_icmp .ge 21, 0, [72]), (.aload_n 0, 0, [0]), (.getfield 238, 73, [16, 111, 81, 1]), (.iload_n 2, 0, [2]), (.iaload, 0, []), (.iload_n 1, 0, [1]), (.if_icmp .lt 5, 0, [66]), (.iconst 0, 0, []), (.ireturn, 0, [1])]
def s403_66 : List E := [(.iinc 2 1, 1, [2]), (.goto (-23), 0, [46])]
def s403_72 : List E := [(.iconst 1, 1, []), (.ireturn, 0, [1])]
def cd403 : List (Nat × List E) := [(0, s403_0), (21, s403_21), (42, s403_42), (44, s403_44), (46, s403_46), (66, s403_66), (72, s403_72)]
theorem l403_0 : lkc cd403 0 = s403_0 := rfl
theorem l403_21 : lkc cd403 21 = s403_21 := rfl
theorem l403_42 : lkc cd403 42 = s403_42 := rfl
theorem l403_44 : lkc cd403 44 = s403_44 := rfl
theorem l403_46 : lkc cd403 46 = s403_46 := rfl
theorem l403_66 : lkc cd403 66 = s403_66 := rfl
theorem l403_72 : lkc cd403 72 = s403_72 := rfl
theorem k403 : chkM 403 16 true cd403 = true := by decide +kernel
/- FontHouseModel.fromBench()V -/
def s404_0 : List E := [(.aload_n 0, 0, [0]), (.invokevirtual 826, 0, [365, 16, 33, 8, 0, 100]), (.aload_n 0, 0, [0]), (.aload_n 0, 0, [0]), (.getfield 922, 0, [16, 98, 0]), (.putfield 811, 0, [16, 74, 0]), (.aload_n 0, 0, [0]), (.aload_n 0, 0, [0]), (.getfield 916, 0, [16, 99, 0]), (.putfield 814, 0, [16, 75, 0]), (.aload_n 0, 0, [0]), (.aload_n 0, 0, [0]), (.getfield 919, 0, [16, 101, 0]), (.putfield 817, 0, [16, 76, 0]), (.aload_n 0, 0, [0]), (.aload_n 0, 0, [0]), (.getfield 928, 0, [16, 102, 0]), (.putfield 820, 0, [16, 77, 0]), (.aload_n 0, 0, [0]), (.aload_n 0, 0, [0]), (.getfield 931, 0, [16, 103, 3]), (.putfield 823, 0, [16, 78, 3]), (.iconst 0, 0, []), (.istore_n 1, 0, [1]), (.nop, 0, [46])]
def s404_46 : List E := [(.iload_n 1, 0, [1]), (.aload_n 0, 0, [0]), (.getfield 922, 0, [16, 98, 0]), (.if_icmp .ge 21, 0, [72]), (.aload_n 0, 0, [0]), (.getfield 178, 53, [16, 80, 81, 1]), (.iload_n 1, 0, [1]), (.aload_n 0, 0, [0]), (.getfield 223, 68, [16, 106, 81, 1]), (.iload_n 1, 0, [1]), (.iaload, 0, []), (.iastore, 0, []), (.iinc 1 1, 1, [1]), (.goto (-23), 0, [46])]
def s404_72 : List E := [(.iconst 0, 0, []), (.istore_n 1, 0, [1]), (.nop, 0, [74])]
def s404_74 : List E := [(.iload_n 1, 0, [1]), (.aload_n 0, 0, [0]), (.getfield 916, 0, [16, 99, 0]), (.if_icmp .ge 45, 0, [124]), (.aload_n 0, 0, [0]), (.getfield 181, 54, [16, 81, 81, 1]), (.iload_n 1, 0, [1]), (.aload_n 0, 0, [0]), (.getfield 226, 69, [16, 107, 81, 1]), (.iload_n 1, 0, [1]), (.iaload, 0, []), (.iastore, 0, []), (.aload_n 0, 0, [0]), (.getfield 184, 55, [16, 82, 81, 1]), (.iload_n 1, 0, [1]), (.aload_n 0, 0, [0]), (.getfield 229, 70, [16, 108, 81, 1]), (.iload_n 1, 0, [1]), (.iaload, 0, []), (.iastore, 0, []), (.aload_n 0, 0, [0]), (.getfield 187, 56, [16, 83, 89, 1]), (.iload_n 1, 0, [1]), (.aload_n 0, 0, [0]), (.getfield 232, 71, [16, 109, 89, 1]), (.iload_n 1, 0, [1]), (.baload, 0, [44]), (.bastore, 0, []), (.iinc 1 1, 1, [1]), (.goto (-47), 0, [74])]
def s404_124 : List E := [(.iconst 0, 0, []), (.istore_n 1, 0, [1]), (.nop, 0, [126])]
def s404_126 : List E := [(.iload_n 1, 0, [1]), (.aload_n 0, 0, [0]), (.getfield 919, 0, [16, 101, 0]), (.if_icmp .ge 86, 0, [217]), (.aload_n 0, 0, [0]), (.getfield 193, 58, [16, 85, 81, 1]), (.iload_n 1, 0, [1]), (.aload_n 0, 0, [0]), (.getfield 235, 72, [16, 110, 81, 1]), (.iload_n 1, 0, [1]), (.iaload, 0, []), (.iload_n 1, 0, [1]), (.aload_n 0, 0, [0]), (.getfield 919, 0, [16, 101, 0]), (.iconst 1, 1, []), (.isub, 0, []), (.if_icmp .ge 8, 0, [160]), (.bipush 32, 32, []), (.goto 4, 0, [161])]
def s404_160 : List E := [(.iconst 0, 0, []), (.nop, 0, [161])]
def s404_161 : List E := [(.iadd, 0, []), (.iastore, 0, []), (.aload_n 0, 0, [0]), (.getfield 196, 59, [16, 86, 81, 1]), (.iload_n 1, 0, [1]), (.aload_n 0, 0, [0]), (.getfield 238, 73, [16, 111, 81, 1]), (.iload_n 1, 0, [1]), (.iaload, 0, []), (.iastore, 0, []), (.aload_n 0, 0, [0]), (.getfield 199, 60, [16, 87, 81, 1]), (.iload_n 1, 0, [1]), (.aload_n 0, 0, [0]), (.getfield 241, 74, [16, 112, 81, 1]), (.iload_n 1, 0, [1]), (.iaload, 0, []), (.iastore, 0, []), (.aload_n 0, 0, [0]), (.getfield 202, 61, [16, 88, 81, 1]), (.iload_n 1, 0, [1]), (.aload_n 0, 0, [0]), (.getfield 244, 75, [16, 113, 81, 1]), (.iload_n 1, 0, [1]), (.iaload, 0, []), (.iastore, 0, []), (.aload_n 0, 0, [0]), (.getfield 205, 62, [16, 89, 81, 1]), (.iload_n 1, 0, [1]), (.aload_n 0, 0, [0]), (.getfield 247, 76, [16, 114, 81, 1]), (.iload_n 1, 0, [1]), (.iaload, 0, []), (.iastore, 0, []), (.iinc 1 1, 1, [1]), (.goto (-88), 0, [126])]
def s404_217 : List E := [(.iconst 0, 0, []), (.istore_n 1, 0, [1]), (.nop, 0, [219])]
def s404_219 : List E := [(.iload_n 1, 0, [1]), (.bipush 64, 64, []), (.if_icmp .ge 21, 0, [243]), (.aload_n 0, 0, [0]), (.getfield 208, 63, [16, 90, 81, 1]), (.iload_n 1, 0, [1]), (.aload_n 0, 0, [0]), (.getfield 250, 77, [16, 115, 81, 1]), (.iload_n 1, 0, [1]), (.iaload, 0, []), (.iastore, 0, []), (.iinc 1 1, 1, [1]), (.goto (-21), 0, [219])]
def s404_243 : List E := [(.iconst 0, 0, []), (.istore_n 1, 0, [1]), (.nop, 0, [245])]
def s404_245 : List E := [(.iload_n 1, 0, [1]), (.aload_n 0, 0, [0]), (.getfield 928, 0, [16, 102, 0]), (.if_icmp .ge 21, 0, [271]), (.aload_n 0, 0, [0]), (.getfield 211, 64, [16, 91, 83, 1]), (.iload_n 1, 0, [1]), (.aload_n 0, 0, [0]), (.getfield 253, 78, [16, 116, 83, 1]), (.iload_n 1, 0, [1]), (.baload, 0, [41]), (.bastore, 0, [41]), (.iinc 1 1, 1, [1]), (.goto (-23), 0, [245])]
def s404_271 : List E := [(.aload_n 0, 0, [0]), (.invokevirtual 940, 0, [405, 16, 33, 8, 0, 100]), (.iconst 0, 0, []), (.istore_n 1, 0, [1]), (.nop, 0, [277])]
def s404_277 : List E := [(.iload_n 1, 0, [1]), (.iconst 4, 4, []), (.if_icmp .ge 37, 0, [316]), (.aload_n 0, 0, [0]), (.getfield 175, 52, [16, 79, 81, 1]), (.iload_n 1, 0, [1]), (.aload_n 0, 0, [0]), (.getfield 934, 0, [16, 104, 3]), (.ifCond .eq 12, 0, [303]), (.aload_n 0, 0, [0]), (.getfield 220, 67, [16, 105, 81, 1]), (.iload_n 1, 0, [1]), (.iaload, 0, []), (.goto 9, 0, [309])]
def s404_303 : List E := [(.aload_n 0, 0, [0]), (.getfield 175, 52, [16, 79, 81, 1]), (.iload_n 1, 0, [1]), (.iaload, 0, []), (.nop, 0, [309])]
def s404_309 : List E := [(.iastore, 0, []), (.iinc 1 1, 1, [1]), (.goto (-36), 0, [277])]
def s404_316 : List E := [(.return_, 0, [])]
def cd404 : List (Nat × List E) := [(0, s404_0), (46, s404_46), (72, s404_72), (74, s404_74), (124, s404_124), (126, s404_126), (160, s404_160), (161, s404_161), (217, s404_217), (219, s404_219), (243, s404_243), (245, s404_245), (271, s404_271), (277, s404_277), (303, s404_303), (309, s404_309), (316, s404_316)]
theorem l404_0 : lkc cd404 0 = s404_0 := rfl
theorem l404_46 : lkc cd404 46 = s404_46 := rfl
theorem l404_72 : lkc cd404 72 = s404_72 := rfl
theorem l404_74 : lkc cd404 74 = s404_74 := rfl
theorem l404_124 : lkc cd404 124 = s404_124 := rfl
theorem l404_126 : lkc cd404 126 = s404_126 := rfl
theorem l404_160 : lkc cd404 160 = s404_160 := rfl
theorem l404_161 : lkc cd404 161 = s404_161 := rfl
theorem l404_217 : lkc cd404 217 = s404_217 := rfl
theorem l404_219 : lkc cd404 219 = s404_219 := rfl
theorem l404_243 : lkc cd404 243 = s404_243 := rfl
theorem l404_245 : lkc cd404 245 = s404_245 := rfl
theorem l404_271 : lkc cd404 271 = s404_271 := rfl
theorem l404_277 : lkc cd404 277 = s404_277 := rfl
theorem l404_303 : lkc cd404 303 = s404_303 := rfl
theorem l404_309 : lkc cd404 309 = s404_309 := rfl
theorem l404_316 : lkc cd404 316 = s404_316 := rfl
theorem k404 : chkM 404 16 true cd404 = true := by decide +kernel
