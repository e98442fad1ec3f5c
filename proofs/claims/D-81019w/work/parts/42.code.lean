set_option maxRecDepth 100000
/- FontHouseModel.read(IZ)I -/
def s324_0 : List E := [(.aload_n 0, 0, [0]), (.iconst 0, 0, []), (.putfield 343, 0, [16, 2, 0]), (.aload_n 0, 0, [0]), (.iconst (-1), -1, []), (.putfield 18, 0, [16, 3, 0]), (.aload_n 0, 0, [0]), (.iload_n 1, 0, [1]), (.iload_n 2, 0, [2]), (.invokevirtual 716, 0, [325, 16, 33, 8, 0, 3, 3, 0]), (.ifCond .eq 32, 0, [48]), (.aload_n 0, 0, [0]), (.iload_n 1, 0, [1]), (.invokevirtual 720, 0, [330, 16, 33, 28, 0, 100, 0]), (.aload_n 0, 0, [0]), (.getfield 343, 0, [16, 2, 0]), (.ifCond .ne 7, 0, [35]), (.aload_n 0, 0, [0]), (.invokevirtual 723, 0, [331, 16, 33, 59, 0, 100]), (.nop, 0, [35])]
def s324_35 : List E := [(.aload_n 0, 0, [0]), (.getfield 343, 0, [16, 2, 0]), (.ifCond .ne 9, 0, [48]), (.aload_n 0, 0, [0]), (.iload_n 1, 0, [1]), (.iload_n 2, 0, [2]), (.invokevirtual 726, 0, [333, 16, 33, 30, 0, 100, 3, 0]), (.nop, 0, [48])]
def s324_48 : List E := [(.aload_n 0, 0, [0]), (.getfield 343, 0, [16, 2, 0]), (.ifCond .le 13, 0, [65]), (.bipush (-10), -10, []), (.aload_n 0, 0, [0]), (.getfield 343, 0, [16, 2, 0]), (.isub, 0, []), (.goto 4, 0, [66])]
def s324_65 : List E := [(.iconst 0, 0, []), (.nop, 0, [66])]
def s324_66 : List E := [(.ireturn, 0, [])]
def cd324 : List (Nat × List E) := [(0, s324_0), (35, s324_35), (48, s324_48), (65, s324_65), (66, s324_66)]
theorem l324_0 : lkc cd324 0 = s324_0 := rfl
theorem l324_35 : lkc cd324 35 = s324_35 := rfl
theorem l324_48 : lkc cd324 48 = s324_48 := rfl
theorem l324_65 : lkc cd324 65 = s324_65 := rfl
theorem l324_66 : lkc cd324 66 = s324_66 := rfl
theorem k324 : chkM 324 16 true cd324 = true := by decide +kernel
/- FontHouseModel.fileHeads(IZ)Z -/
def s325_0 : List E := [(.iload_n 2, 0, [2]), (.ifCond .ne 22, 0, [23]), (.aload_n 0, 0, [0]), (.iconst 1, 1, []), (.putfield 691, 0, [16, 59, 0]), (.aload_n 0, 0, [0]), (.getfield 147, 43, [16, 58, 81, 1]), (.iconst 0, 0, []), (.iconst 0, 0, []), (.iastore, 0, []), (.aload_n 0, 0, [0]), (.iload_n 1, 0, [1]), (.lconst 0, 0, []), (.invokevirtual 694, 0, [326, 16, 33, 8, 0, 3, 5, 0]), (.ireturn, 0, [1])]
def s325_23 : List E := [(.aload_n 0, 0, [0]), (.getfield 14, 2, [16, 1, 81, 1]), (.iload_n 1, 0, [1]), (.iaload, 0, []), (.bipush 12, 12, []), (.if_icmp .ge 24, 0, [55]), (.aload_n 0, 0, [0]), (.bipush 21, 21, []), (.aload_n 0, 0, [0]), (.getfield 14, 2, [16, 1, 81, 1]), (.iload_n 1, 0, [1]), (.iaload, 0, []), (.invokevirtual 357, 0, [243, 16, 33, 55, 0, 3, 0, 0]), (.ifCond .ne 7, 0, [53]), (.iconst 1, 1, []), (.goto 4, 0, [54])]
def s325_53 : List E := [(.iconst 0, 0, []), (.nop, 0, [54])]
def s325_54 : List E := [(.ireturn, 0, [1])]
def s325_55 : List E := [(.aload_n 0, 0, [0]), (.iload_n 1, 0, [1]), (.iconst 0, 0, []), (.invokevirtual 680, 0, [327, 16, 33, 33, 0, 5, 0, 0]), (.ldc2_w 698, 1953784678, []), (.lcmp, 0, []), (.ifCond .eq 19, 0, [84]), (.aload_n 0, 0, [0]), (.bipush 22, 22, []), (.iconst 0, 0, []), (.invokevirtual 357, 0, [243, 16, 33, 55, 0, 3, 0, 0]), (.ifCond .ne 7, 0, [82]), (.iconst 1, 1, []), (.goto 4, 0, [83])]
def s325_82 : List E := [(.iconst 0, 0, []), (.nop, 0, [83])]
def s325_83 : List E := [(.ireturn, 0, [1])]
def s325_84 : List E := [(.aload_n 0, 0, [0]), (.iload_n 1, 0, [1]), (.iconst 4, 4, []), (.invokevirtual 680, 0, [327, 16, 33, 33, 0, 5, 0, 0]), (.ldc2_w 646, 65536, []), (.lcmp, 0, []), (.ifCond .eq 19, 0, [113]), (.aload_n 0, 0, [0]), (.bipush 22, 22, []), (.iconst 4, 4, []), (.invokevirtual 357, 0, [243, 16, 33, 55, 0, 3, 0, 0]), (.ifCond .ne 7, 0, [111]), (.iconst 1, 1, []), (.goto 4, 0, [112])]
def s325_111 : List E := [(.iconst 0, 0, []), (.nop, 0, [112])]
def s325_112 : List E := [(.ireturn, 0, [1])]
def s325_113 : List E := [(.aload_n 0, 0, [0]), (.iload_n 1, 0, [1]), (.bipush 8, 8, []), (.invokevirtual 680, 0, [327, 16, 33, 33, 0, 5, 0, 0]), (.lstore_n 3, 0, [3]), (.lload_n 3, 0, [3]), (.lconst 1, 1, []), (.lcmp, 0, []), (.ifCond .lt 11, 0, [135]), (.lload_n 3, 0, [3]), (.ldc2_w 700, 4, []), (.lcmp, 0, []), (.ifCond .le 20, 0, [152]), (.nop, 0, [135])]
def s325_135 : List E := [(.aload_n 0, 0, [0]), (.bipush 23, 23, []), (.bipush 8, 8, []), (.invokevirtual 357, 0, [243, 16, 33, 55, 0, 3, 0, 0]), (.ifCond .ne 7, 0, [150]), (.iconst 1, 1, []), (.goto 4, 0, [151])]
def s325_150 : List E := [(.iconst 0, 0, []), (.nop, 0, [151])]
def s325_151 : List E := [(.ireturn, 0, [1])]
def s325_152 : List E := [(.aload_n 0, 0, [0]), (.lload_n 3, 0, [3]), (.l2i, 0, []), (.putfield 691, 0, [16, 59, 0]), (.bipush 12, 12, []), (.iconst 4, 4, []), (.aload_n 0, 0, [0]), (.getfield 691, 0, [16, 59, 0]), (.imul, 0, []), (.iadd, 0, []), (.aload_n 0, 0, [0]), (.getfield 14, 2, [16, 1, 81, 1]), (.iload_n 1, 0, [1]), (.iaload, 0, []), (.if_icmp .le 24, 0, [197]), (.aload_n 0, 0, [0]), (.bipush 21, 21, []), (.aload_n 0, 0, [0]), (.getfield 14, 2, [16, 1, 81, 1]), (.iload_n 1, 0, [1]), (.iaload, 0, []), (.invokevirtual 357, 0, [243, 16, 33, 55, 0, 3, 0, 0]), (.ifCond .ne 7, 0, [195]), (.iconst 1, 1, []), (.goto 4, 0, [196])]
def s325_195 : List E := [(.iconst 0, 0, []), (.nop, 0, [196])]
def s325_196 : List E := [(.ireturn, 0, [1])]
def s325_197 : List E := [(.iconst 0, 0, []), (.istore 5, 0, [5]), (.nop, 0, [200])]
def s325_200 : List E := [(.iload 5, 0, [5]), (.aload_n 0, 0, [0]), (.getfield 691, 0, [16, 59, 0]), (.if_icmp .ge 45, 0, [251]), (.aload_n 0, 0, [0]), (.iload_n 1, 0, [1]), (.bipush 12, 12, []), (.iconst 4, 4, []), (.iload 5, 0, [5]), (.imul, 0, []), (.iadd, 0, []), (.invokevirtual 680, 0, [327, 16, 33, 33, 0, 5, 0, 0]), (.lstore 6, 0, [6]), (.aload_n 0, 0, [0]), (.iload_n 1, 0, [1]), (.lload 6, 0, [6]), (.invokevirtual 694, 0, [326, 16, 33, 8, 0, 3, 5, 0]), (.ifCond .ne 5, 0, [235]), (.iconst 0, 0, []), (.ireturn, 0, [1])]
def s325_235 : List E := [(.aload_n 0, 0, [0]), (.getfield 147, 43, [16, 58, 81, 1]), (.iload 5, 0, [5]), (.lload 6, 0, [6]), (.l2i, 0, []), (.iastore, 0, []), (.iinc 5 1, 1, [5]), (.goto (-48), 0, [200])]
def s325_251 : List E := [(.iconst 1, 1, []), (.ireturn, 0, [1])]
def cd325 : List (Nat × List E) := [(0, s325_0), (23, s325_23), (53, s325_53), (54, s325_54), (55, s325_55), (82, s325_82), (83, s325_83), (84, s325_84), (111, s325_111), (112, s325_112), (113, s325_113), (135, s325_135), (150, s325_150), (151, s325_151), (152, s325_152), (195, s325_195), (196, s325_196), (197, s325_197), (200, s325_200), (235, s325_235), (251, s325_251)]
theorem l325_0 : lkc cd325 0 = s325_0 := rfl
theorem l325_23 : lkc cd325 23 = s325_23 := rfl
theorem l325_53 : lkc cd325 53 = s325_53 := rfl
theorem l325_54 : lkc cd325 54 = s325_54 := rfl
theorem l325_55 : lkc cd325 55 = s325_55 := rfl
theorem l325_82 : lkc cd325 82 = s325_82 := rfl
theorem l325_83 : lkc cd325 83 = s325_83 := rfl
theorem l325_84 : lkc cd325 84 = s325_84 := rfl
theorem l325_111 : lkc cd325 111 = s325_111 := rfl
theorem l325_112 : lkc cd325 112 = s325_112 := rfl
theorem l325_113 : lkc cd325 113 = s325_113 := rfl
theorem l325_135 : lkc cd325 135 = s325_135 := rfl
theorem l325_150 : lkc cd325 150 = s325_150 := rfl
theorem l325_151 : lkc cd325 151 = s325_151 := rfl
theorem l325_152 : lkc cd325 152 = s325_152 := rfl
theorem l325_195 : lkc cd325 195 = s325_195 := rfl
theorem l325_196 : lkc cd325 196 = s325_196 := rfl
theorem l325_197 : lkc cd325 197 = s325_197 := rfl
theorem l325_200 : lkc cd325 200 = s325_200 := rfl
theorem l325_235 : lkc cd325 235 = s325_235 := rfl
theorem l325_251 : lkc cd325 251 = s325_251 := rfl
theorem k325 : chkM 325 16 true cd325 = true := by decide +kernel
/- FontHouseModel.directory(IJ)Z -/
def s326_0 : List E := [(.lload_n 2, 0, [2]), (.ldc2_w 678, 12, []), (.ladd, 0, []), (.aload_n 0, 0, [0]), (.getfield 14, 2, [16, 1, 81, 1]), (.iload_n 1, 0, [1]), (.iaload, 0, []), (.i2l, 0, []), (.lcmp, 0, []), (.ifCond .le 24, 0, [37]), (.aload_n 0, 0, [0]), (.bipush 21, 21, []), (.aload_n 0, 0, [0]), (.getfield 14, 2, [16, 1, 81, 1]), (.iload_n 1, 0, [1]), (.iaload, 0, []), (.invokevirtual 357, 0, [243, 16, 33, 30, 0, 3, 0, 0]), (.ifCond .ne 7, 0, [35]), (.iconst 1, 1, []), (.goto 4, 0, [36])]
def s326_35 : List E := [(.iconst 0, 0, []), (.nop, 0, [36])]
def s326_36 : List E := [(.ireturn, 0, [1])]
def s326_37 : List E := [(.lload_n 2, 0, [2]), (.l2i, 0, []), (.istore 4, 0, [4]), (.aload_n 0, 0, [0]), (.aload_n 0, 0, [0]), (.iload_n 1, 0, [1]), (.iload 4, 0, [4]), (.invokevirtual 680, 0, [327, 16, 33, 8, 0, 5, 0, 0]), (.invokevirtual 684, 0, [328, 16, 33, 30, 0, 3, 5]), (.ifCond .ne 20, 0, [72]), (.aload_n 0, 0, [0]), (.bipush 22, 22, []), (.iload 4, 0, [4]), (.invokevirtual 357, 0, [243, 16, 33, 30, 0, 3, 0, 0]), (.ifCond .ne 7, 0, [70]), (.iconst 1, 1, []), (.goto 4, 0, [71])]
def s326_70 : List E := [(.iconst 0, 0, []), (.nop, 0, [71])]
def s326_71 : List E := [(.ireturn, 0, [1])]
def s326_72 : List E := [(.aload_n 0, 0, [0]), (.iload_n 1, 0, [1]), (.iload 4, 0, [4]), (.iconst 4, 4, []), (.iadd, 0, []), (.invokevirtual 688, 0, [329, 16, 33, 8, 0, 0, 0, 0]), (.istore 5, 0, [5]), (.iload 5, 0, [5]), (.iconst 1, 1, []), (.if_icmp .lt 10, 0, [96]), (.iload 5, 0, [5]), (.bipush 16, 16, []), (.if_icmp .le 22, 0, [115]), (.nop, 0, [96])]
def s326_96 : List E := [(.aload_n 0, 0, [0]), (.bipush 23, 23, []), (.iload 4, 0, [4]), (.iconst 4, 4, []), (.iadd, 0, []), (.invokevirtual 357, 0, [243, 16, 33, 30, 0, 3, 0, 0]), (.ifCond .ne 7, 0, [113]), (.iconst 1, 1, []), (.goto 4, 0, [114])]
def s326_113 : List E := [(.iconst 0, 0, []), (.nop, 0, [114])]
def s326_114 : List E := [(.ireturn, 0, [1])]
def s326_115 : List E := [(.iload 4, 0, [4]), (.bipush 12, 12, []), (.iadd, 0, []), (.bipush 16, 16, []), (.iload 5, 0, [5]), (.imul, 0, []), (.iadd, 0, []), (.aload_n 0, 0, [0]), (.getfield 14, 2, [16, 1, 81, 1]), (.iload_n 1, 0, [1]), (.iaload, 0, []), (.if_icmp .le 18, 0, [150]), (.aload_n 0, 0, [0]), (.bipush 21, 21, []), (.aload_n 0, 0, [0]), (.getfield 14, 2, [16, 1, 81, 1]), (.iload_n 1, 0, [1]), (.iaload, 0, []), (.invokevirtual 357, 0, [243, 16, 33, 30, 0, 3, 0, 0]), (.ifCond .ne 7, 0, [154]), (.nop, 0, [150])]
def s326_150 : List E := [(.iconst 1, 1, []), (.goto 4, 0, [155])]
def s326_154 : List E := [(.iconst 0, 0, []), (.nop, 0, [155])]
def s326_155 : List E := [(.ireturn, 0, [1])]
def cd326 : List (Nat × List E) := [(0, s326_0), (35, s326_35), (36, s326_36), (37, s326_37), (70, s326_70), (71, s326_71), (72, s326_72), (96, s326_96), (113, s326_113), (114, s326_114), (115, s326_115), (150, s326_150), (154, s326_154), (155, s326_155)]
theorem l326_0 : lkc cd326 0 = s326_0 := rfl
theorem l326_35 : lkc cd326 35 = s326_35 := rfl
theorem l326_36 : lkc cd326 36 = s326_36 := rfl
theorem l326_37 : lkc cd326 37 = s326_37 := rfl
theorem l326_70 : lkc cd326 70 = s326_70 := rfl
theorem l326_71 : lkc cd326 71 = s326_71 := rfl
theorem l326_72 : lkc cd326 72 = s326_72 := rfl
theorem l326_96 : lkc cd326 96 = s326_96 := rfl
theorem l326_113 : lkc cd326 113 = s326_113 := rfl
theorem l326_114 : lkc cd326 114 = s326_114 := rfl
theorem l326_115 : lkc cd326 115 = s326_115 := rfl
theorem l326_150 : lkc cd326 150 = s326_150 := rfl
theorem l326_154 : lkc cd326 154 = s326_154 := rfl
theorem l326_155 : lkc cd326 155 = s326_155 := rfl
theorem k326 : chkM 326 16 true cd326 = true := by decide +kernel
/- FontHouseModel.fourAt(II)J -/
def s327_0 : List E := [(.aload_n 0, 0, [0]), (.iload_n 1, 0, [1]), (.iload_n 2, 0, [2]), (.invokevirtual 335, 0, [233, 16, 33, 8, 0, 0, 0, 0]), (.i2l, 0, []), (.bipush 24, 24, []), (.lshl, 0, []), (.aload_n 0, 0, [0]), (.iload_n 1, 0, [1]), (.iload_n 2, 0, [2]), (.iconst 1, 1, []), (.iadd, 0, []), (.invokevirtual 335, 0, [233, 16, 33, 8, 0, 0, 0, 0]), (.bipush 16, 16, []), (.ishl, 0, []), (.i2l, 0, []), (.lor, 0, []), (.aload_n 0, 0, [0]), (.iload_n 1, 0, [1]), (.iload_n 2, 0, [2]), (.iconst 2, 2, []), (.iadd, 0, []), (.invokevirtual 335, 0, [233, 16, 33, 8, 0, 0, 0, 0]), (.bipush 8, 8, []), (.ishl, 0, []), (.i2l, 0, []), (.lor, 0, []), (.aload_n 0, 0, [0]), (.iload_n 1, 0, [1]), (.iload_n 2, 0, [2]), (.iconst 3, 3, []), (.iadd, 0, []), (.invokevirtual 335, 0, [233, 16, 33, 8, 0, 0, 0, 0]), (.i2l, 0, []), (.lor, 0, []), (.lreturn, 0, [])]
def cd327 : List (Nat × List E) := [(0, s327_0)]
theorem l327_0 : lkc cd327 0 = s327_0 := rfl
theorem k327 : chkM 327 16 true cd327 = true := by decide +kernel
/- FontHouseModel.isFlavor(J)Z -/
def s328_0 : List E := [(.lload_n 1, 0, [1]), (.ldc2_w 646, 65536, []), (.lcmp, 0, []), (.ifCond .eq 11, 0, [16]), (.lload_n 1, 0, [1]), (.ldc2_w 676, 1330926671, []), (.lcmp, 0, []), (.ifCond .ne 7, 0, [20]), (.nop, 0, [16])]
def s328_16 : List E := [(.iconst 1, 1, []), (.goto 4, 0, [21])]
def s328_20 : List E := [(.iconst 0, 0, []), (.nop, 0, [21])]
def s328_21 : List E := [(.ireturn, 0, [1])]
def cd328 : List (Nat × List E) := [(0, s328_0), (16, s328_16), (20, s328_20), (21, s328_21)]
theorem l328_0 : lkc cd328 0 = s328_0 := rfl
theorem l328_16 : lkc cd328 16 = s328_16 := rfl
theorem l328_20 : lkc cd328 20 = s328_20 := rfl
theorem l328_21 : lkc cd328 21 = s328_21 := rfl
theorem k328 : chkM 328 16 true cd328 = true := by decide +kernel
/- FontHouseModel.twoAt(II)I -/
def s329_0 : List E := [(.aload_n 0, 0, [0]), (.iload_n 1, 0, [1]), (.iload_n 2, 0, [2]), (.invokevirtual 335, 0, [233, 16, 33, 8, 0, 0, 0, 0]), (.bipush 8, 8, []), (.ishl, 0, []), (.aload_n 0, 0, [0]), (.iload_n 1, 0, [1]), (.iload_n 2, 0, [2]), (.iconst 1, 1, []), (.iadd, 0, []), (.invokevirtual 335, 0, [233, 16, 33, 8, 0, 0, 0, 0]), (.ior, 0, []), (.ireturn, 0, [])]
def cd329 : List (Nat × List E) := [(0, s329_0)]
theorem l329_0 : lkc cd329 0 = s329_0 := rfl
theorem k329 : chkM 329 16 true cd329 = true := by decide +kernel
/- FontHouseModel.entryRows(I)V -/
def s330_0 : List E := [(.aload_n 0, 0, [0]), (.iconst 0, 0, []), (.putfield 702, 0, [16, 60, 0]), (.iconst 0, 0, []), (.istore_n 2, 0, [2]), (.iconst 0, 0, []), (.istore_n 3, 0, [3]), (.nop, 0, [9])]
def s330_9 : List E := [(.iload_n 3, 0, [3]), (.aload_n 0, 0, [0]), (.getfield 691, 0, [16, 59, 0]), (.if_icmp .ge 54, 0, [68]), (.aload_n 0, 0, [0]), (.iload_n 1, 0, [1]), (.aload_n 0, 0, [0]), (.getfield 147, 43, [16, 58, 81, 1]), (.iload_n 3, 0, [3]), (.iaload, 0, []), (.iconst 4, 4, []), (.iadd, 0, []), (.invokevirtual 688, 0, [329, 16, 33, 8, 0, 0, 0, 0]), (.istore 4, 0, [4]), (.aload_n 0, 0, [0]), (.getfield 147, 43, [16, 58, 81, 1]), (.iload_n 3, 0, [3]), (.iaload, 0, []), (.bipush 12, 12, []), (.iadd, 0, []), (.bipush 16, 16, []), (.iload 4, 0, [4]), (.imul, 0, []), (.iadd, 0, []), (.istore 5, 0, [5]), (.iload 5, 0, [5]), (.iload_n 2, 0, [2]), (.if_icmp .le 8, 0, [60]), (.iload 5, 0, [5]), (.goto 4, 0, [61])]
def s330_60 : List E := [(.iload_n 2, 0, [2]), (.nop, 0, [61])]
def s330_61 : List E := [(.istore_n 2, 0, [2]), (.iinc 3 1, 1, [3]), (.goto (-56), 0, [9])]
def s330_68 : List E := [(.iconst 0, 0, []), (.istore_n 3, 0, [3]), (.nop, 0, [70])]
def s330_70 : List E := [(.iload_n 3, 0, [3]), (.aload_n 0, 0, [0]), (.getfield 691, 0, [16, 59, 0]), (.if_icmp .ge 242, 0, [317]), (.aload_n 0, 0, [0]), (.iload_n 1, 0, [1]), (.aload_n 0, 0, [0]), (.getfield 147, 43, [16, 58, 81, 1]), (.iload_n 3, 0, [3]), (.iaload, 0, []), (.iconst 4, 4, []), (.iadd, 0, []), (.invokevirtual 688, 0, [329, 16, 33, 8, 0, 0, 0, 0]), (.istore 4, 0, [4]), (.iconst 0, 0, []), (.istore 5, 0, [5]), (.nop, 0, [96])]
def s330_96 : List E := [(.iload 5, 0, [5]), (.iload 4, 0, [4]), (.if_icmp .ge 211, 0, [311]), (.aload_n 0, 0, [0]), (.getfield 147, 43, [16, 58, 81, 1]), (.iload_n 3, 0, [3]), (.iaload, 0, []), (.bipush 12, 12, []), (.iadd, 0, []), (.bipush 16, 16, []), (.iload 5, 0, [5]), (.imul, 0, []), (.iadd, 0, []), (.istore 6, 0, [6]), (.aload_n 0, 0, [0]), (.iload_n 1, 0, [1]), (.iload 6, 0, [6]), (.invokevirtual 680, 0, [327, 16, 33, 8, 0, 5, 0, 0]), (.lstore 7, 0, [7]), (.aload_n 0, 0, [0]), (.iload_n 1, 0, [1]), (.iload 6, 0, [6]), (.bipush 8, 8, []), (.iadd, 0, []), (.invokevirtual 680, 0, [327, 16, 33, 8, 0, 5, 0, 0]), (.lstore 9, 0, [9]), (.aload_n 0, 0, [0]), (.iload_n 1, 0, [1]), (.iload 6, 0, [6]), (.bipush 12, 12, []), (.iadd, 0, []), (.invokevirtual 680, 0, [327, 16, 33, 8, 0, 5, 0, 0]), (.lstore 11, 0, [11]), (.iload 5, 0, [5]), (.ifCond .le 30, 0, [185]), (.lload 7, 0, [7]), (.aload_n 0, 0, [0]), (.getfield 156, 46, [16, 63, 87, 1]), (.aload_n 0, 0, [0]), (.getfield 702, 0, [16, 60, 0]), (.iconst 1, 1, []), (.isub, 0, []), (.laload, 0, []), (.lcmp, 0, []), (.ifCond .gt 13, 0, [185]), (.aload_n 0, 0, [0]), (.bipush 24, 24, []), (.iload 6, 0, [6]), (.invokevirtual 357, 0, [243, 16, 33, 30, 0, 3, 0, 0]), (.pop, 0, []), (.return_, 0, [])]
def s330_185 : List E := [(.lload 9, 0, [9]), (.lload 11, 0, [11]), (.ladd, 0, []), (.aload_n 0, 0, [0]), (.getfield 14, 2, [16, 1, 81, 1]), (.iload_n 1, 0, [1]), (.iaload, 0, []), (.i2l, 0, []), (.lcmp, 0, []), (.ifCond .gt 31, 0, [229]), (.lload 11, 0, [11]), (.ldc2_w 705, 12000, []), (.lcmp, 0, []), (.ifCond .gt 22, 0, [229]), (.lload 9, 0, [9]), (.ldc2_w 700, 4, []), (.lrem, 0, []), (.lconst 0, 0, []), (.lcmp, 0, []), (.ifCond .ne 11, 0, [229]), (.lload 9, 0, [9]), (.iload_n 2, 0, [2]), (.i2l, 0, []), (.lcmp, 0, []), (.ifCond .ge 13, 0, [239]), (.nop, 0, [229])]
def s330_229 : List E := [(.aload_n 0, 0, [0]), (.bipush 25, 25, []), (.iload 6, 0, [6]), (.invokevirtual 357, 0, [243, 16, 33, 30, 0, 3, 0, 0]), (.pop, 0, []), (.return_, 0, [])]
def s330_239 : List E := [(.aload_n 0, 0, [0]), (.getfield 150, 44, [16, 61, 81, 1]), (.aload_n 0, 0, [0]), (.getfield 702, 0, [16, 60, 0]), (.iload 6, 0, [6]), (.iastore, 0, []), (.aload_n 0, 0, [0]), (.getfield 153, 45, [16, 62, 81, 1]), (.aload_n 0, 0, [0]), (.getfield 702, 0, [16, 60, 0]), (.iload_n 3, 0, [3]), (.iastore, 0, []), (.aload_n 0, 0, [0]), (.getfield 156, 46, [16, 63, 87, 1]), (.aload_n 0, 0, [0]), (.getfield 702, 0, [16, 60, 0]), (.lload 7, 0, [7]), (.lastore, 0, []), (.aload_n 0, 0, [0]), (.getfield 159, 47, [16, 64, 81, 1]), (.aload_n 0, 0, [0]), (.getfield 702, 0, [16, 60, 0]), (.lload 9, 0, [9]), (.l2i, 0, []), (.iastore, 0, []), (.aload_n 0, 0, [0]), (.getfield 162, 48, [16, 65, 81, 1]), (.aload_n 0, 0, [0]), (.getfield 702, 0, [16, 60, 0]), (.lload 11, 0, [11]), (.l2i, 0, []), (.iastore, 0, []), (.aload_n 0, 0, [0]), (.dup, 0, []), (.getfield 702, 0, [16, 60, 0]), (.iconst 1, 1, []), (.iadd, 0, []), (.putfield 702, 0, [16, 60, 0]), (.iinc 5 1, 1, [5]), (.goto (-212), 0, [96])]
def s330_311 : List E := [(.iinc 3 1, 1, [3]), (.goto (-244), 0, [70])]
def s330_317 : List E := [(.return_, 0, [])]
def cd330 : List (Nat × List E) := [(0, s330_0), (9, s330_9), (60, s330_60), (61, s330_61), (68, s330_68), (70, s330_70), (96, s330_96), (185, s330_185), (229, s330_229), (239, s330_239), (311, s330_311), (317, s330_317)]
theorem l330_0 : lkc cd330 0 = s330_0 := rfl
theorem l330_9 : lkc cd330 9 = s330_9 := rfl
theorem l330_60 : lkc cd330 60 = s330_60 := rfl
theorem l330_61 : lkc cd330 61 = s330_61 := rfl
theorem l330_68 : lkc cd330 68 = s330_68 := rfl
theorem l330_70 : lkc cd330 70 = s330_70 := rfl
theorem l330_96 : lkc cd330 96 = s330_96 := rfl
theorem l330_185 : lkc cd330 185 = s330_185 := rfl
theorem l330_229 : lkc cd330 229 = s330_229 := rfl
theorem l330_239 : lkc cd330 239 = s330_239 := rfl
theorem l330_311 : lkc cd330 311 = s330_311 := rfl
theorem l330_317 : lkc cd330 317 = s330_317 := rfl
theorem k330 : chkM 330 16 true cd330 = true := by decide +kernel
/- FontHouseModel.common()V -/
def s331_0 : List E := [(.iconst 0, 0, []), (.istore_n 1, 0, [1]), (.nop, 0, [2])]
def s331_2 : List E := [(.iload_n 1, 0, [1]), (.aload_n 0, 0, [0]), (.getfield 702, 0, [16, 60, 0]), (.if_icmp .ge 117, 0, [124]), (.iconst 0, 0, []), (.istore_n 2, 0, [2]), (.nop, 0, [12])]
def s331_12 : List E := [(.iload_n 2, 0, [2]), (.iload_n 1, 0, [1]), (.if_icmp .ge 104, 0, [118]), (.aload_n 0, 0, [0]), (.getfield 162, 48, [16, 65, 81, 1]), (.iload_n 1, 0, [1]), (.iaload, 0, []), (.ifCond .le 60, 0, [83]), (.aload_n 0, 0, [0]), (.getfield 162, 48, [16, 65, 81, 1]), (.iload_n 2, 0, [2]), (.iaload, 0, []), (.ifCond .le 51, 0, [83]), (.aload_n 0, 0, [0]), (.getfield 159, 47, [16, 64, 81, 1]), (.iload_n 1, 0, [1]), (.iaload, 0, []), (.aload_n 0, 0, [0]), (.getfield 159, 47, [16, 64, 81, 1]), (.iload_n 2, 0, [2]), (.iaload, 0, []), (.aload_n 0, 0, [0]), (.getfield 162, 48, [16, 65, 81, 1]), (.iload_n 2, 0, [2]), (.iaload, 0, []), (.iadd, 0, []), (.if_icmp .ge 29, 0, [83]), (.aload_n 0, 0, [0]), (.getfield 159, 47, [16, 64, 81, 1]), (.iload_n 2, 0, [2]), (.iaload, 0, []), (.aload_n 0, 0, [0]), (.getfield 159, 47, [16, 64, 81, 1]), (.iload_n 1, 0, [1]), (.iaload, 0, []), (.aload_n 0, 0, [0]), (.getfield 162, 48, [16, 65, 81, 1]), (.iload_n 1, 0, [1]), (.iaload, 0, []), (.iadd, 0, []), (.if_icmp .ge 7, 0, [83]), (.iconst 1, 1, []), (.goto 4, 0, [84])]
def s331_83 : List E := [(.iconst 0, 0, []), (.nop, 0, [84])]
def s331_84 : List E := [(.istore_n 3, 0, [3]), (.iload_n 3, 0, [3]), (.ifCond .eq 26, 0, [112]), (.aload_n 0, 0, [0]), (.iload_n 1, 0, [1]), (.iload_n 2, 0, [2]), (.invokevirtual 707, 0, [332, 16, 33, 8, 0, 3, 0, 0]), (.ifCond .ne 17, 0, [112]), (.aload_n 0, 0, [0]), (.bipush 26, 26, []), (.aload_n 0, 0, [0]), (.getfield 150, 44, [16, 61, 81, 1]), (.iload_n 1, 0, [1]), (.iaload, 0, []), (.invokevirtual 357, 0, [243, 16, 33, 8, 0, 3, 0, 0]), (.pop, 0, []), (.return_, 0, [])]
def s331_112 : List E := [(.iinc 2 1, 1, [2]), (.goto (-103), 0, [12])]
def s331_118 : List E := [(.iinc 1 1, 1, [1]), (.goto (-119), 0, [2])]
def s331_124 : List E := [(.return_, 0, [])]
def cd331 : List (Nat × List E) := [(0, s331_0), (2, s331_2), (12, s331_12), (83, s331_83), (84, s331_84), (112, s331_112), (118, s331_118), (124, s331_124)]
theorem l331_0 : lkc cd331 0 = s331_0 := rfl
theorem l331_2 : lkc cd331 2 = s331_2 := rfl
theorem l331_12 : lkc cd331 12 = s331_12 := rfl
theorem l331_83 : lkc cd331 83 = s331_83 := rfl
theorem l331_84 : lkc cd331 84 = s331_84 := rfl
theorem l331_112 : lkc cd331 112 = s331_112 := rfl
theorem l331_118 : lkc cd331 118 = s331_118 := rfl
theorem l331_124 : lkc cd331 124 = s331_124 := rfl
theorem k331 : chkM 331 16 true cd331 = true := by decide +kernel
/- FontHouseModel.isSame(II)Z -/
def s332_0 : List E := [(.aload_n 0, 0, [0]), (.getfield 153, 45, [16, 62, 81, 1]), (.iload_n 1, 0, [1]), (.iaload, 0, []), (.aload_n 0, 0, [0]), (.getfield 153, 45, [16, 62, 81, 1]), (.iload_n 2, 0, [2]), (.iaload, 0, []), (.if_icmp .eq 53, 0, [65]), (.aload_n 0, 0, [0]), (.getfield 156, 46, [16, 63, 87, 1]), (.iload_n 1, 0, [1]), (.laload, 0, []), (.aload_n 0, 0, [0]), (.getfield 156, 46, [16, 63, 87, 1]), (.iload_n 2, 0, [2]), (.laload, 0, []), (.lcmp, 0, []), (.ifCond .ne 37, 0, [65]), (.aload_n 0, 0, [0]), (.getfield 159, 47, [16, 64, 81, 1]), (.iload_n 1, 0, [1]), (.iaload, 0, []), (.aload_n 0, 0, [0]), (.getfield 159, 47, [16, 64, 81, 1]), (.iload_n 2, 0, [2]), (.iaload, 0, []), (.if_icmp .ne 22, 0, [65]), (.aload_n 0, 0, [0]), (.getfield 162, 48, [16, 65, 81, 1]), (.iload_n 1, 0, [1]), (.iaload, 0, []), (.aload_n 0, 0, [0]), (.getfield 162, 48, [16, 65, 81, 1]), (.iload_n 2, 0, [2]), (.iaload, 0, []), (.if_icmp .ne 7, 0, [65]), (.iconst 1, 1, []), (.goto 4, 0, [66])]
def s332_65 : List E := [(.iconst 0, 0, []), (.nop, 0, [66])]
def s332_66 : List E := [(.ireturn, 0, [1])]
def cd332 : List (Nat × List E) := [(0, s332_0), (65, s332_65), (66, s332_66)]
theorem l332_0 : lkc cd332 0 = s332_0 := rfl
theorem l332_65 : lkc cd332 65 = s332_65 := rfl
theorem l332_66 : lkc cd332 66 = s332_66 := rfl
theorem k332 : chkM 332 16 true cd332 = true := by decide +kernel
/- FontHouseModel.sums(IZ)V -/
def s333_0 : List E := [(.iconst 0, 0, []), (.istore_n 3, 0, [3]), (.nop, 0, [2])]
def s333_2 : List E := [(.iload_n 3, 0, [3]), (.aload_n 0, 0, [0]), (.getfield 702, 0, [16, 60, 0]), (.if_icmp .ge 83, 0, [90]), (.aload_n 0, 0, [0]), (.iload_n 1, 0, [1]), (.aload_n 0, 0, [0]), (.getfield 159, 47, [16, 64, 81, 1]), (.iload_n 3, 0, [3]), (.iaload, 0, []), (.aload_n 0, 0, [0]), (.getfield 162, 48, [16, 65, 81, 1]), (.iload_n 3, 0, [3]), (.iaload, 0, []), (.aload_n 0, 0, [0]), (.getfield 156, 46, [16, 63, 87, 1]), (.iload_n 3, 0, [3]), (.laload, 0, []), (.ldc2_w 656, 1751474532, []), (.lcmp, 0, []), (.ifCond .ne 15, 0, [49]), (.aload_n 0, 0, [0]), (.getfield 159, 47, [16, 64, 81, 1]), (.iload_n 3, 0, [3]), (.iaload, 0, []), (.bipush 8, 8, []), (.iadd, 0, []), (.goto 4, 0, [50])]
def s333_49 : List E := [(.iconst (-1), -1, []), (.nop, 0, [50])]
def s333_50 : List E := [(.invokevirtual 710, 0, [334, 16, 33, 8, 0, 5, 0, 0, 0, 0]), (.aload_n 0, 0, [0]), (.iload_n 1, 0, [1]), (.aload_n 0, 0, [0]), (.getfield 150, 44, [16, 61, 81, 1]), (.iload_n 3, 0, [3]), (.iaload, 0, []), (.iconst 4, 4, []), (.iadd, 0, []), (.invokevirtual 680, 0, [327, 16, 33, 14, 0, 5, 0, 0]), (.lcmp, 0, []), (.ifCond .eq 17, 0, [84]), (.aload_n 0, 0, [0]), (.bipush 27, 27, []), (.aload_n 0, 0, [0]), (.getfield 150, 44, [16, 61, 81, 1]), (.iload_n 3, 0, [3]), (.iaload, 0, []), (.invokevirtual 357, 0, [243, 16, 33, 36, 0, 3, 0, 0]), (.pop, 0, []), (.return_, 0, [])]
def s333_84 : List E := [(.iinc 3 1, 1, [3]), (.goto (-85), 0, [2])]
def s333_90 : List E := [(.iconst 0, 0, []), (.istore_n 3, 0, [3]), (.nop, 0, [92])]
def s333_92 : List E := [(.iload_n 3, 0, [3]), (.aload_n 0, 0, [0]), (.getfield 702, 0, [16, 60, 0]), (.if_icmp .ge 90, 0, [187]), (.iload_n 2, 0, [2]), (.ifCond .ne 86, 0, [187]), (.aload_n 0, 0, [0]), (.getfield 156, 46, [16, 63, 87, 1]), (.iload_n 3, 0, [3]), (.laload, 0, []), (.ldc2_w 656, 1751474532, []), (.lcmp, 0, []), (.ifCond .ne 67, 0, [181]), (.aload_n 0, 0, [0]), (.getfield 162, 48, [16, 65, 81, 1]), (.iload_n 3, 0, [3]), (.iaload, 0, []), (.bipush 12, 12, []), (.if_icmp .lt 56, 0, [181]), (.aload_n 0, 0, [0]), (.getfield 159, 47, [16, 64, 81, 1]), (.iload_n 3, 0, [3]), (.iaload, 0, []), (.bipush 8, 8, []), (.iadd, 0, []), (.istore 4, 0, [4]), (.aload_n 0, 0, [0]), (.iload_n 1, 0, [1]), (.iload 4, 0, [4]), (.invokevirtual 680, 0, [327, 16, 33, 14, 0, 5, 0, 0]), (.ldc2_w 714, 2981146554, []), (.aload_n 0, 0, [0]), (.iload_n 1, 0, [1]), (.iconst 0, 0, []), (.aload_n 0, 0, [0]), (.getfield 14, 2, [16, 1, 81, 1]), (.iload_n 1, 0, [1]), (.iaload, 0, []), (.iload 4, 0, [4]), (.invokevirtual 710, 0, [334, 16, 33, 8, 0, 5, 0, 0, 0, 0]), (.lsub, 0, []), (.ldc2_w 341, 4294967295, []), (.land, 0, []), (.lcmp, 0, []), (.ifCond .eq 12, 0, [181]), (.aload_n 0, 0, [0]), (.bipush 28, 28, []), (.iload 4, 0, [4]), (.invokevirtual 357, 0, [243, 16, 33, 36, 0, 3, 0, 0]), (.pop, 0, []), (.nop, 0, [181])]
def s333_181 : List E := [(.iinc 3 1, 1, [3]), (.goto (-92), 0, [92])]
def s333_187 : List E := [(.return_, 0, [])]
def cd333 : List (Nat × List E) := [(0, s333_0), (2, s333_2), (49, s333_49), (50, s333_50), (84, s333_84), (90, s333_90), (92, s333_92), (181, s333_181), (187, s333_187)]
theorem l333_0 : lkc cd333 0 = s333_0 := rfl
theorem l333_2 : lkc cd333 2 = s333_2 := rfl
theorem l333_49 : lkc cd333 49 = s333_49 := rfl
theorem l333_50 : lkc cd333 50 = s333_50 := rfl
theorem l333_84 : lkc cd333 84 = s333_84 := rfl
theorem l333_90 : lkc cd333 90 = s333_90 := rfl
theorem l333_92 : lkc cd333 92 = s333_92 := rfl
theorem l333_181 : lkc cd333 181 = s333_181 := rfl
theorem l333_187 : lkc cd333 187 = s333_187 := rfl
theorem k333 : chkM 333 16 true cd333 = true := by decide +kernel
/- FontHouseModel.sumOfRow(IIII)J -/
def s334_0 : List E := [(.lconst 0, 0, []), (.lstore 5, 0, [5]), (.iconst 0, 0, []), (.istore 7, 0, [7]), (.nop, 0, [6])]
def s334_6 : List E := [(.iload 7, 0, [7]), (.iload_n 3, 0, [3]), (.if_icmp .ge 64, 0, [73]), (.iload_n 2, 0, [2]), (.iload 7, 0, [7]), (.iadd, 0, []), (.istore 8, 0, [8]), (.lload 5, 0, [5]), (.iload 4, 0, [4]), (.ifCond .lt 23, 0, [45]), (.iload 8, 0, [8]), (.iload 4, 0, [4]), (.if_icmp .lt 16, 0, [45]), (.iload 8, 0, [8]), (.iload 4, 0, [4]), (.iconst 4, 4, []), (.iadd, 0, []), (.if_icmp .ge 7, 0, [45]), (.lconst 0, 0, []), (.goto 22, 0, [64])]
def s334_45 : List E := [(.aload_n 0, 0, [0]), (.iload_n 1, 0, [1]), (.iload 8, 0, [8]), (.invokevirtual 335, 0, [233, 16, 33, 8, 0, 0, 0, 0]), (.i2l, 0, []), (.bipush 24, 24, []), (.bipush 8, 8, []), (.iload 7, 0, [7]), (.iconst 3, 3, []), (.iand, 0, []), (.imul, 0, []), (.isub, 0, []), (.lshl, 0, []), (.nop, 0, [64])]
def s334_64 : List E := [(.ladd, 0, []), (.lstore 5, 0, [5]), (.iinc 7 1, 1, [7]), (.goto (-64), 0, [6])]
def s334_73 : List E := [(.lload 5, 0, [5]), (.ldc2_w 341, 4294967295, []), (.land, 0, []), (.lreturn, 0, [])]
def cd334 : List (Nat × List E) := [(0, s334_0), (6, s334_6), (45, s334_45), (64, s334_64), (73, s334_73)]
theorem l334_0 : lkc cd334 0 = s334_0 := rfl
theorem l334_6 : lkc cd334 6 = s334_6 := rfl
theorem l334_45 : lkc cd334 45 = s334_45 := rfl
theorem l334_64 : lkc cd334 64 = s334_64 := rfl
theorem l334_73 : lkc cd334 73 = s334_73 := rfl
theorem k334 : chkM 334 16 true cd334 = true := by decide +kernel
/- FontHouseModel.layFonts(II)V -/
def s335_0 : List E := [(.iconst 0, 0, []), (.istore_n 3, 0, [3]), (.nop, 0, [2])]
def s335_2 : List E := [(.iload_n 3, 0, [3]), (.aload_n 0, 0, [0]), (.getfield 691, 0, [16, 59, 0]), (.if_icmp .ge 49, 0, [56]), (.iload_n 2, 0, [2]), (.iload_n 3, 0, [3]), (.iadd, 0, []), (.istore 4, 0, [4]), (.aload_n 0, 0, [0]), (.getfield 132, 38, [16, 53, 89, 1]), (.iload 4, 0, [4]), (.iconst 1, 1, []), (.bastore, 0, []), (.aload_n 0, 0, [0]), (.getfield 135, 39, [16, 54, 81, 1]), (.iload 4, 0, [4]), (.aload_n 0, 0, [0]), (.iload_n 1, 0, [1]), (.aload_n 0, 0, [0]), (.getfield 147, 43, [16, 58, 81, 1]), (.iload_n 3, 0, [3]), (.iaload, 0, []), (.invokevirtual 680, 0, [327, 16, 33, 13, 0, 5, 0, 0]), (.l2i, 0, []), (.iastore, 0, []), (.aload_n 0, 0, [0]), (.getfield 138, 40, [16, 55, 81, 1]), (.iload 4, 0, [4]), (.iconst 0, 0, []), (.iastore, 0, []), (.iinc 3 1, 1, [3]), (.goto (-51), 0, [2])]
def s335_56 : List E := [(.iconst 0, 0, []), (.istore_n 3, 0, [3]), (.nop, 0, [58])]
def s335_58 : List E := [(.iload_n 3, 0, [3]), (.aload_n 0, 0, [0]), (.getfield 702, 0, [16, 60, 0]), (.if_icmp .ge 170, 0, [233]), (.aload_n 0, 0, [0]), (.getfield 165, 49, [16, 66, 81, 1]), (.iload_n 3, 0, [3]), (.iconst (-1), -1, []), (.iastore, 0, []), (.iconst 0, 0, []), (.istore 4, 0, [4]), (.nop, 0, [76])]
def s335_76 : List E := [(.iload 4, 0, [4]), (.iload_n 3, 0, [3]), (.if_icmp .ge 41, 0, [120]), (.aload_n 0, 0, [0]), (.getfield 165, 49, [16, 66, 81, 1]), (.iload_n 3, 0, [3]), (.aload_n 0, 0, [0]), (.iload 4, 0, [4]), (.iload_n 3, 0, [3]), (.invokevirtual 707, 0, [332, 16, 33, 35, 0, 3, 0, 0]), (.ifCond .eq 13, 0, [107]), (.aload_n 0, 0, [0]), (.getfield 165, 49, [16, 66, 81, 1]), (.iload 4, 0, [4]), (.iaload, 0, []), (.goto 9, 0, [113])]
def s335_107 : List E := [(.aload_n 0, 0, [0]), (.getfield 165, 49, [16, 66, 81, 1]), (.iload_n 3, 0, [3]), (.iaload, 0, []), (.nop, 0, [113])]
def s335_113 : List E := [(.iastore, 0, []), (.iinc 4 1, 1, [4]), (.goto (-41), 0, [76])]
def s335_120 : List E := [(.aload_n 0, 0, [0]), (.getfield 165, 49, [16, 66, 81, 1]), (.iload_n 3, 0, [3]), (.iaload, 0, []), (.ifCond .ge 77, 0, [203]), (.aload_n 0, 0, [0]), (.aload_n 0, 0, [0]), (.getfield 162, 48, [16, 65, 81, 1]), (.iload_n 3, 0, [3]), (.iaload, 0, []), (.invokevirtual 621, 0, [316, 16, 33, 34, 0, 0, 0]), (.istore 4, 0, [4]), (.iconst 0, 0, []), (.istore 5, 0, [5]), (.nop, 0, [144])]
def s335_144 : List E := [(.iload 5, 0, [5]), (.aload_n 0, 0, [0]), (.getfield 162, 48, [16, 65, 81, 1]), (.iload_n 3, 0, [3]), (.iaload, 0, []), (.if_icmp .ge 43, 0, [195]), (.aload_n 0, 0, [0]), (.getfield 123, 35, [16, 50, 83, 1]), (.sipush 12000, 12000, []), (.iload 4, 0, [4]), (.imul, 0, []), (.iload 5, 0, [5]), (.iadd, 0, []), (.aload_n 0, 0, [0]), (.getfield 8, 1, [16, 0, 83, 1]), (.sipush 16000, 16000, []), (.iload_n 1, 0, [1]), (.imul, 0, []), (.aload_n 0, 0, [0]), (.getfield 159, 47, [16, 64, 81, 1]), (.iload_n 3, 0, [3]), (.iaload, 0, []), (.iadd, 0, []), (.iload 5, 0, [5]), (.iadd, 0, []), (.baload, 0, [41]), (.bastore, 0, [41]), (.iinc 5 1, 1, [5]), (.goto (-48), 0, [144])]
def s335_195 : List E := [(.aload_n 0, 0, [0]), (.getfield 165, 49, [16, 66, 81, 1]), (.iload_n 3, 0, [3]), (.iload 4, 0, [4]), (.iastore, 0, []), (.nop, 0, [203])]
def s335_203 : List E := [(.aload_n 0, 0, [0]), (.iload_n 2, 0, [2]), (.aload_n 0, 0, [0]), (.getfield 153, 45, [16, 62, 81, 1]), (.iload_n 3, 0, [3]), (.iaload, 0, []), (.iadd, 0, []), (.aload_n 0, 0, [0]), (.getfield 156, 46, [16, 63, 87, 1]), (.iload_n 3, 0, [3]), (.laload, 0, []), (.aload_n 0, 0, [0]), (.getfield 165, 49, [16, 66, 81, 1]), (.iload_n 3, 0, [3]), (.iaload, 0, []), (.invokevirtual 658, 0, [319, 16, 33, 8, 0, 100, 0, 5, 0]), (.iinc 3 1, 1, [3]), (.goto (-172), 0, [58])]
def s335_233 : List E := [(.return_, 0, [])]
def cd335 : List (Nat × List E) := [(0, s335_0), (2, s335_2), (56, s335_56), (58, s335_58), (76, s335_76), (107, s335_107), (113, s335_113), (120, s335_120), (144, s335_144), (195, s335_195), (203, s335_203), (233, s335_233)]
theorem l335_0 : lkc cd335 0 = s335_0 := rfl
theorem l335_2 : lkc cd335 2 = s335_2 := rfl
theorem l335_56 : lkc cd335 56 = s335_56 := rfl
theorem l335_58 : lkc cd335 58 = s335_58 := rfl
theorem l335_76 : lkc cd335 76 = s335_76 := rfl
theorem l335_107 : lkc cd335 107 = s335_107 := rfl
theorem l335_113 : lkc cd335 113 = s335_113 := rfl
theorem l335_120 : lkc cd335 120 = s335_120 := rfl
theorem l335_144 : lkc cd335 144 = s335_144 := rfl
theorem l335_195 : lkc cd335 195 = s335_195 := rfl
theorem l335_203 : lkc cd335 203 = s335_203 := rfl
theorem l335_233 : lkc cd335 233 = s335_233 := rfl
theorem k335 : chkM 335 16 true cd335 = true := by decide +kernel
/- FontHouseModel.several(I)I -/
def s336_0 : List E := [(.iload_n 1, 0, [1]), (.invokestatic 329, 0, [229, 106, 0, 3, 0]), (.ifCond .ne 5, 0, [9]), (.iconst (-1), -1, []), (.ireturn, 0, [])]
def s336_9 : List E := [(.aload_n 0, 0, [0]), (.getfield 18, 0, [16, 3, 0]), (.istore_n 2, 0, [2]), (.aload_n 0, 0, [0]), (.iload_n 1, 0, [1]), (.iconst 1, 1, []), (.invokevirtual 729, 0, [324, 16, 33, 8, 0, 0, 3, 0]), (.istore_n 3, 0, [3]), (.iload_n 3, 0, [3]), (.ifCond .ge 5, 0, [27]), (.iload_n 3, 0, [3]), (.ireturn, 0, [])]
def s336_27 : List E := [(.aload_n 0, 0, [0]), (.invokevirtual 643, 0, [313, 16, 33, 82, 0, 100]), (.iconst 0, 0, []), (.istore 4, 0, [4]), (.nop, 0, [34])]
def s336_34 : List E := [(.iload 4, 0, [4]), (.iconst 4, 4, []), (.if_icmp .ge 17, 0, [54]), (.aload_n 0, 0, [0]), (.getfield 132, 38, [16, 53, 89, 1]), (.iload 4, 0, [4]), (.iconst 0, 0, []), (.bastore, 0, []), (.iinc 4 1, 1, [4]), (.goto (-17), 0, [34])]
def s336_54 : List E := [(.aload_n 0, 0, [0]), (.iload_n 1, 0, [1]), (.iconst 0, 0, []), (.invokevirtual 732, 0, [335, 16, 33, 52, 0, 100, 0, 0]), (.aload_n 0, 0, [0]), (.invokevirtual 672, 0, [321, 16, 33, 62, 0, 3]), (.ifCond .ne 11, 0, [75]), (.aload_n 0, 0, [0]), (.iload_n 2, 0, [2]), (.putfield 18, 0, [16, 3, 0]), (.bipush (-4), -4, []), (.ireturn, 0, [])]
def s336_75 : List E := [(.aload_n 0, 0, [0]), (.getfield 691, 0, [16, 59, 0]), (.ireturn, 0, [])]
def cd336 : List (Nat × List E) := [(0, s336_0), (9, s336_9), (27, s336_27), (34, s336_34), (54, s336_54), (75, s336_75)]
theorem l336_0 : lkc cd336 0 = s336_0 := rfl
theorem l336_9 : lkc cd336 9 = s336_9 := rfl
theorem l336_27 : lkc cd336 27 = s336_27 := rfl
theorem l336_34 : lkc cd336 34 = s336_34 := rfl
theorem l336_54 : lkc cd336 54 = s336_54 := rfl
theorem l336_75 : lkc cd336 75 = s336_75 := rfl
theorem k336 : chkM 336 16 true cd336 = true := by decide +kernel
/- FontHouseModel.save(II)I -/
def s337_0 : List E := [(.iload_n 1, 0, [1]), (.invokestatic 640, 0, [312, 60, 0, 3, 0]), (.ifCond .eq 10, 0, [14]), (.iload_n 2, 0, [2]), (.invokestatic 329, 0, [229, 60, 0, 3, 0]), (.ifCond .ne 5, 0, [16]), (.nop, 0, [14])]
def s337_14 : List E := [(.iconst (-1), -1, []), (.ireturn, 0, [])]
def s337_16 : List E := [(.aload_n 0, 0, [0]), (.iload_n 1, 0, [1]), (.invokevirtual 749, 0, [338, 16, 33, 59, 0, 3, 0]), (.ifCond .ne 6, 0, [27]), (.bipush (-3), -3, []), (.ireturn, 0, [])]
def s337_27 : List E := [(.aload_n 0, 0, [0]), (.iconst 1, 1, []), (.iload_n 1, 0, [1]), (.ishl, 0, []), (.iconst 0, 0, []), (.ldc2_w 339, -1, []), (.invokevirtual 752, 0, [339, 16, 33, 52, 0, 0, 5, 3, 0]), (.sipush 16000, 16000, []), (.if_icmp .le 6, 0, [47]), (.bipush (-4), -4, []), (.ireturn, 0, [])]
def s337_47 : List E := [(.aload_n 0, 0, [0]), (.iconst 0, 0, []), (.putfield 735, 0, [16, 68, 0]), (.aload_n 0, 0, [0]), (.iload_n 1, 0, [1]), (.invokevirtual 756, 0, [340, 16, 33, 8, 0, 100, 0]), (.iconst 0, 0, []), (.istore_n 3, 0, [3]), (.nop, 0, [59])]
def s337_59 : List E := [(.iload_n 3, 0, [3]), (.aload_n 0, 0, [0]), (.getfield 138, 40, [16, 55, 81, 1]), (.iload_n 1, 0, [1]), (.iaload, 0, []), (.if_icmp .ge 24, 0, [90]), (.aload_n 0, 0, [0]), (.aload_n 0, 0, [0]), (.getfield 144, 42, [16, 57, 81, 1]), (.bipush 16, 16, []), (.iload_n 1, 0, [1]), (.imul, 0, []), (.iload_n 3, 0, [3]), (.iadd, 0, []), (.iaload, 0, []), (.invokevirtual 759, 0, [345, 16, 33, 35, 0, 100, 0]), (.iinc 3 1, 1, [3]), (.goto (-28), 0, [59])]
def s337_90 : List E := [(.aload_n 0, 0, [0]), (.iload_n 1, 0, [1]), (.ldc2_w 656, 1751474532, []), (.invokevirtual 762, 0, [346, 16, 33, 32, 0, 0, 5, 0]), (.istore_n 3, 0, [3]), (.iload_n 3, 0, [3]), (.ifCond .lt 14, 0, [114]), (.aload_n 0, 0, [0]), (.getfield 126, 36, [16, 51, 81, 1]), (.iload_n 3, 0, [3]), (.iaload, 0, []), (.bipush 12, 12, []), (.if_icmp .ge 7, 0, [118]), (.nop, 0, [114])]
def s337_114 : List E := [(.iconst (-1), -1, []), (.goto 12, 0, [127])]
def s337_118 : List E := [(.aload_n 0, 0, [0]), (.getfield 172, 51, [16, 69, 81, 1]), (.iload_n 3, 0, [3]), (.iaload, 0, []), (.bipush 8, 8, []), (.iadd, 0, []), (.nop, 0, [127])]
def s337_127 : List E := [(.istore 4, 0, [4]), (.aload_n 0, 0, [0]), (.iload_n 2, 0, [2]), (.invokevirtual 765, 0, [347, 16, 33, 58, 0, 0, 0]), (.pop, 0, []), (.iload 4, 0, [4]), (.ifCond .lt 69, 0, [206]), (.ldc2_w 714, 2981146554, []), (.aload_n 0, 0, [0]), (.iload_n 2, 0, [2]), (.iconst 0, 0, []), (.aload_n 0, 0, [0]), (.getfield 735, 0, [16, 68, 0]), (.iload 4, 0, [4]), (.invokevirtual 710, 0, [334, 16, 33, 30, 0, 5, 0, 0, 0, 0]), (.lsub, 0, []), (.ldc2_w 341, 4294967295, []), (.land, 0, []), (.lstore 5, 0, [5]), (.iconst 0, 0, []), (.istore 7, 0, [7]), (.nop, 0, [165])]
def s337_165 : List E := [(.iload 7, 0, [7]), (.iconst 4, 4, []), (.if_icmp .ge 38, 0, [206]), (.aload_n 0, 0, [0]), (.getfield 8, 1, [16, 0, 83, 1]), (.sipush 16000, 16000, []), (.iload_n 2, 0, [2]), (.imul, 0, []), (.iload 4, 0, [4]), (.iadd, 0, []), (.iload 7, 0, [7]), (.iadd, 0, []), (.lload 5, 0, [5]), (.bipush 24, 24, []), (.bipush 8, 8, []), (.iload 7, 0, [7]), (.imul, 0, []), (.isub, 0, []), (.lshr, 0, []), (.l2i, 0, []), (.i2b, 0, []), (.bastore, 0, [41]), (.iinc 7 1, 1, [7]), (.goto (-38), 0, [165])]
def s337_206 : List E := [(.aload_n 0, 0, [0]), (.getfield 735, 0, [16, 68, 0]), (.ireturn, 0, [])]
def cd337 : List (Nat × List E) := [(0, s337_0), (14, s337_14), (16, s337_16), (27, s337_27), (47, s337_47), (59, s337_59), (90, s337_90), (114, s337_114), (118, s337_118), (127, s337_127), (165, s337_165), (206, s337_206)]
theorem l337_0 : lkc cd337 0 = s337_0 := rfl
theorem l337_14 : lkc cd337 14 = s337_14 := rfl
theorem l337_16 : lkc cd337 16 = s337_16 := rfl
theorem l337_27 : lkc cd337 27 = s337_27 := rfl
theorem l337_47 : lkc cd337 47 = s337_47 := rfl
theorem l337_59 : lkc cd337 59 = s337_59 := rfl
theorem l337_90 : lkc cd337 90 = s337_90 := rfl
theorem l337_114 : lkc cd337 114 = s337_114 := rfl
theorem l337_118 : lkc cd337 118 = s337_118 := rfl
theorem l337_127 : lkc cd337 127 = s337_127 := rfl
theorem l337_165 : lkc cd337 165 = s337_165 := rfl
theorem l337_206 : lkc cd337 206 = s337_206 := rfl
theorem k337 : chkM 337 16 true cd337 = true := by decide +kernel
/- FontHouseModel.hasTables(I)Z -/
def s338_0 : List E := [(.aload_n 0, 0, [0]), (.getfield 132, 38, [16, 53, 89, 1]), (.iload_n 1, 0, [1]), (.baload, 0, [44]), (.ifCond .eq 16, 0, [22]), (.aload_n 0, 0, [0]), (.getfield 138, 40, [16, 55, 81, 1]), (.iload_n 1, 0, [1]), (.iaload, 0, []), (.ifCond .le 7, 0, [22]), (.iconst 1, 1, []), (.goto 4, 0, [23])]
def s338_22 : List E := [(.iconst 0, 0, []), (.nop, 0, [23])]
def s338_23 : List E := [(.ireturn, 0, [1])]
def cd338 : List (Nat × List E) := [(0, s338_0), (22, s338_22), (23, s338_23)]
theorem l338_0 : lkc cd338 0 = s338_0 := rfl
theorem l338_22 : lkc cd338 22 = s338_22 := rfl
theorem l338_23 : lkc cd338 23 = s338_23 := rfl
theorem k338 : chkM 338 16 true cd338 = true := by decide +kernel
/- FontHouseModel.measure(IZJ)I -/
def s339_0 : List E := [(.iconst 0, 0, []), (.istore 5, 0, [5]), (.iconst 0, 0, []), (.istore 6, 0, [6]), (.nop, 0, [6])]
def s339_6 : List E := [(.iload 6, 0, [6]), (.iconst 4, 4, []), (.if_icmp .ge 85, 0, [94]), (.iload_n 1, 0, [1]), (.iload 6, 0, [6]), (.ishr, 0, []), (.iconst 1, 1, []), (.iand, 0, []), (.iconst 1, 1, []), (.if_icmp .ne 69, 0, [88]), (.iload 5, 0, [5]), (.iload_n 2, 0, [2]), (.ifCond .eq 8, 0, [33]), (.bipush 16, 16, []), (.goto 5, 0, [35])]
def s339_33 : List E := [(.bipush 12, 12, []), (.nop, 0, [35])]
def s339_35 : List E := [(.iadd, 0, []), (.istore 5, 0, [5]), (.iconst 0, 0, []), (.istore 7, 0, [7]), (.nop, 0, [41])]
def s339_41 : List E := [(.iload 7, 0, [7]), (.aload_n 0, 0, [0]), (.getfield 138, 40, [16, 55, 81, 1]), (.iload 6, 0, [6]), (.iaload, 0, []), (.if_icmp .ge 38, 0, [88]), (.iload 5, 0, [5]), (.aload_n 0, 0, [0]), (.getfield 141, 41, [16, 56, 87, 1]), (.bipush 16, 16, []), (.iload 6, 0, [6]), (.imul, 0, []), (.iload 7, 0, [7]), (.iadd, 0, []), (.laload, 0, []), (.lload_n 3, 0, [3]), (.lcmp, 0, []), (.ifCond .ne 7, 0, [77]), (.iconst 0, 0, []), (.goto 5, 0, [79])]
def s339_77 : List E := [(.bipush 16, 16, []), (.nop, 0, [79])]
def s339_79 : List E := [(.iadd, 0, []), (.istore 5, 0, [5]), (.iinc 7 1, 1, [7]), (.goto (-44), 0, [41])]
def s339_88 : List E := [(.iinc 6 1, 1, [6]), (.goto (-85), 0, [6])]
def s339_94 : List E := [(.iload 5, 0, [5]), (.iload_n 2, 0, [2]), (.ifCond .eq 8, 0, [105]), (.bipush 12, 12, []), (.goto 4, 0, [106])]
def s339_105 : List E := [(.iconst 0, 0, []), (.nop, 0, [106])]
def s339_106 : List E := [(.iadd, 0, []), (.istore 5, 0, [5]), (.iconst 0, 0, []), (.istore 6, 0, [6]), (.nop, 0, [112])]
def s339_112 : List E := [(.iload 6, 0, [6]), (.bipush 120, 120, []), (.if_icmp .ge 17, 0, [133]), (.aload_n 0, 0, [0]), (.getfield 172, 51, [16, 69, 81, 1]), (.iload 6, 0, [6]), (.iconst (-1), -1, []), (.iastore, 0, []), (.iinc 6 1, 1, [6]), (.goto (-18), 0, [112])]
def s339_133 : List E := [(.iconst 0, 0, []), (.istore 6, 0, [6]), (.nop, 0, [136])]
def s339_136 : List E := [(.iload 6, 0, [6]), (.iconst 4, 4, []), (.if_icmp .ge 109, 0, [248]), (.iconst 0, 0, []), (.istore 7, 0, [7]), (.nop, 0, [145])]
def s339_145 : List E := [(.iload_n 1, 0, [1]), (.iload 6, 0, [6]), (.ishr, 0, []), (.iconst 1, 1, []), (.iand, 0, []), (.iconst 1, 1, []), (.if_icmp .ne 90, 0, [242]), (.iload 7, 0, [7]), (.aload_n 0, 0, [0]), (.getfield 138, 40, [16, 55, 81, 1]), (.iload 6, 0, [6]), (.iaload, 0, []), (.if_icmp .ge 78, 0, [242]), (.aload_n 0, 0, [0]), (.getfield 144, 42, [16, 57, 81, 1]), (.bipush 16, 16, []), (.iload 6, 0, [6]), (.imul, 0, []), (.iload 7, 0, [7]), (.iadd, 0, []), (.iaload, 0, []), (.istore 8, 0, [8]), (.aload_n 0, 0, [0]), (.getfield 172, 51, [16, 69, 81, 1]), (.iload 8, 0, [8]), (.iaload, 0, []), (.ifCond .ge 47, 0, [236]), (.aload_n 0, 0, [0]), (.getfield 141, 41, [16, 56, 87, 1]), (.bipush 16, 16, []), (.iload 6, 0, [6]), (.imul, 0, []), (.iload 7, 0, [7]), (.iadd, 0, []), (.laload, 0, []), (.lload_n 3, 0, [3]), (.lcmp, 0, []), (.ifCond .eq 29, 0, [236]), (.aload_n 0, 0, [0]), (.getfield 172, 51, [16, 69, 81, 1]), (.iload 8, 0, [8]), (.iload 5, 0, [5]), (.iastore, 0, []), (.iload 5, 0, [5]), (.aload_n 0, 0, [0]), (.getfield 126, 36, [16, 51, 81, 1]), (.iload 8, 0, [8]), (.iaload, 0, []), (.iconst 3, 3, []), (.iadd, 0, []), (.bipush (-4), -4, []), (.iand, 0, []), (.iadd, 0, []), (.istore 5, 0, [5]), (.nop, 0, [236])]
def s339_236 : List E := [(.iinc 7 1, 1, [7]), (.goto (-94), 0, [145])]
def s339_242 : List E := [(.iinc 6 1, 1, [6]), (.goto (-109), 0, [136])]
def s339_248 : List E := [(.iload 5, 0, [5]), (.ireturn, 0, [])]
def cd339 : List (Nat × List E) := [(0, s339_0), (6, s339_6), (33, s339_33), (35, s339_35), (41, s339_41), (77, s339_77), (79, s339_79), (88, s339_88), (94, s339_94), (105, s339_105), (106, s339_106), (112, s339_112), (133, s339_133), (136, s339_136), (145, s339_145), (236, s339_236), (242, s339_242), (248, s339_248)]
theorem l339_0 : lkc cd339 0 = s339_0 := rfl
theorem l339_6 : lkc cd339 6 = s339_6 := rfl
theorem l339_33 : lkc cd339 33 = s339_33 := rfl
theorem l339_35 : lkc cd339 35 = s339_35 := rfl
theorem l339_41 : lkc cd339 41 = s339_41 := rfl
theorem l339_77 : lkc cd339 77 = s339_77 := rfl
theorem l339_79 : lkc cd339 79 = s339_79 := rfl
theorem l339_88 : lkc cd339 88 = s339_88 := rfl
theorem l339_94 : lkc cd339 94 = s339_94 := rfl
theorem l339_105 : lkc cd339 105 = s339_105 := rfl
theorem l339_106 : lkc cd339 106 = s339_106 := rfl
theorem l339_112 : lkc cd339 112 = s339_112 := rfl
theorem l339_133 : lkc cd339 133 = s339_133 := rfl
theorem l339_136 : lkc cd339 136 = s339_136 := rfl
theorem l339_145 : lkc cd339 145 = s339_145 := rfl
theorem l339_236 : lkc cd339 236 = s339_236 := rfl
theorem l339_242 : lkc cd339 242 = s339_242 := rfl
theorem l339_248 : lkc cd339 248 = s339_248 := rfl
theorem k339 : chkM 339 16 true cd339 = true := by decide +kernel
/- FontHouseModel.sayFont(I)V -/
def s340_0 : List E := [(.aload_n 0, 0, [0]), (.getfield 138, 40, [16, 55, 81, 1]), (.iload_n 1, 0, [1]), (.iaload, 0, []), (.istore_n 2, 0, [2]), (.iconst 0, 0, []), (.istore_n 3, 0, [3]), (.nop, 0, [9])]
def s340_9 : List E := [(.iconst 2, 2, []), (.iload_n 3, 0, [3]), (.ishl, 0, []), (.iload_n 2, 0, [2]), (.if_icmp .gt 9, 0, [22]), (.iinc 3 1, 1, [3]), (.goto (-10), 0, [9])]
def s340_22 : List E := [(.aload_n 0, 0, [0]), (.aload_n 0, 0, [0]), (.getfield 135, 39, [16, 54, 81, 1]), (.iload_n 1, 0, [1]), (.iaload, 0, []), (.i2l, 0, []), (.invokevirtual 741, 0, [341, 16, 33, 10, 0, 100, 5]), (.aload_n 0, 0, [0]), (.iload_n 2, 0, [2]), (.iconst 2, 2, []), (.invokevirtual 738, 0, [342, 16, 33, 32, 0, 100, 0, 0]), (.aload_n 0, 0, [0]), (.bipush 16, 16, []), (.iload_n 3, 0, [3]), (.ishl, 0, []), (.iconst 2, 2, []), (.invokevirtual 738, 0, [342, 16, 33, 32, 0, 100, 0, 0]), (.aload_n 0, 0, [0]), (.iload_n 3, 0, [3]), (.iconst 2, 2, []), (.invokevirtual 738, 0, [342, 16, 33, 32, 0, 100, 0, 0]), (.aload_n 0, 0, [0]), (.bipush 16, 16, []), (.iload_n 2, 0, [2]), (.imul, 0, []), (.bipush 16, 16, []), (.iload_n 3, 0, [3]), (.ishl, 0, []), (.isub, 0, []), (.iconst 2, 2, []), (.invokevirtual 738, 0, [342, 16, 33, 32, 0, 100, 0, 0]), (.iconst 0, 0, []), (.istore 4, 0, [4]), (.nop, 0, [71])]
def s340_71 : List E := [(.iload 4, 0, [4]), (.iload_n 2, 0, [2]), (.if_icmp .ge 97, 0, [171]), (.aload_n 0, 0, [0]), (.getfield 144, 42, [16, 57, 81, 1]), (.bipush 16, 16, []), (.iload_n 1, 0, [1]), (.imul, 0, []), (.iload 4, 0, [4]), (.iadd, 0, []), (.iaload, 0, []), (.istore 5, 0, [5]), (.aload_n 0, 0, [0]), (.aload_n 0, 0, [0]), (.getfield 141, 41, [16, 56, 87, 1]), (.bipush 16, 16, []), (.iload_n 1, 0, [1]), (.imul, 0, []), (.iload 4, 0, [4]), (.iadd, 0, []), (.laload, 0, []), (.invokevirtual 741, 0, [341, 16, 33, 10, 0, 100, 5]), (.aload_n 0, 0, [0]), (.aload_n 0, 0, [0]), (.iload 5, 0, [5]), (.aload_n 0, 0, [0]), (.getfield 141, 41, [16, 56, 87, 1]), (.bipush 16, 16, []), (.iload_n 1, 0, [1]), (.imul, 0, []), (.iload 4, 0, [4]), (.iadd, 0, []), (.laload, 0, []), (.ldc2_w 656, 1751474532, []), (.lcmp, 0, []), (.ifCond .ne 7, 0, [134]), (.iconst 1, 1, []), (.goto 4, 0, [135])]
def s340_134 : List E := [(.iconst 0, 0, []), (.nop, 0, [135])]
def s340_135 : List E := [(.invokevirtual 745, 0, [343, 16, 33, 8, 0, 5, 3, 0]), (.invokevirtual 741, 0, [341, 16, 33, 10, 0, 100, 5]), (.aload_n 0, 0, [0]), (.aload_n 0, 0, [0]), (.getfield 172, 51, [16, 69, 81, 1]), (.iload 5, 0, [5]), (.iaload, 0, []), (.i2l, 0, []), (.invokevirtual 741, 0, [341, 16, 33, 10, 0, 100, 5]), (.aload_n 0, 0, [0]), (.aload_n 0, 0, [0]), (.getfield 126, 36, [16, 51, 81, 1]), (.iload 5, 0, [5]), (.iaload, 0, []), (.i2l, 0, []), (.invokevirtual 741, 0, [341, 16, 33, 10, 0, 100, 5]), (.iinc 4 1, 1, [4]), (.goto (-97), 0, [71])]
def s340_171 : List E := [(.return_, 0, [])]
def cd340 : List (Nat × List E) := [(0, s340_0), (9, s340_9), (22, s340_22), (71, s340_71), (134, s340_134), (135, s340_135), (171, s340_171)]
theorem l340_0 : lkc cd340 0 = s340_0 := rfl
theorem l340_9 : lkc cd340 9 = s340_9 := rfl
theorem l340_22 : lkc cd340 22 = s340_22 := rfl
theorem l340_71 : lkc cd340 71 = s340_71 := rfl
theorem l340_134 : lkc cd340 134 = s340_134 := rfl
theorem l340_135 : lkc cd340 135 = s340_135 := rfl
theorem l340_171 : lkc cd340 171 = s340_171 := rfl
theorem k340 : chkM 340 16 true cd340 = true := by decide +kernel
/- FontHouseModel.sayFour(J)V -/
def s341_0 : List E := [(.aload_n 0, 0, [0]), (.lload_n 1, 0, [1]), (.l2i, 0, []), (.iconst 4, 4, []), (.invokevirtual 738, 0, [342, 16, 33, 8, 0, 100, 0, 0]), (.return_, 0, [])]
def cd341 : List (Nat × List E) := [(0, s341_0)]
theorem l341_0 : lkc cd341 0 = s341_0 := rfl
theorem k341 : chkM 341 16 true cd341 = true := by decide +kernel
/- FontHouseModel.say(II)V -/
def s342_0 : List E := [(.iload_n 2, 0, [2]), (.iconst 1, 1, []), (.isub, 0, []), (.istore_n 3, 0, [3]), (.nop, 0, [4])]
def s342_4 : List E := [(.iload_n 3, 0, [3]), (.ifCond .lt 35, 0, [40]), (.aload_n 0, 0, [0]), (.getfield 169, 50, [16, 67, 83, 1]), (.aload_n 0, 0, [0]), (.getfield 735, 0, [16, 68, 0]), (.iload_n 1, 0, [1]), (.bipush 8, 8, []), (.iload_n 3, 0, [3]), (.imul, 0, []), (.ishr, 0, []), (.i2b, 0, []), (.bastore, 0, [41]), (.aload_n 0, 0, [0]), (.dup, 0, []), (.getfield 735, 0, [16, 68, 0]), (.iconst 1, 1, []), (.iadd, 0, []), (.putfield 735, 0, [16, 68, 0]), (.iinc 3 (-1), -1, [3]), (.goto (-33), 0, [4])]
def s342_40 : List E := [(.return_, 0, [])]
def cd342 : List (Nat × List E) := [(0, s342_0), (4, s342_4), (40, s342_40)]
theorem l342_0 : lkc cd342 0 = s342_0 := rfl
theorem l342_4 : lkc cd342 4 = s342_4 := rfl
theorem l342_40 : lkc cd342 40 = s342_40 := rfl
theorem k342 : chkM 342 16 true cd342 = true := by decide +kernel
/- FontHouseModel.sumOf(IZ)J -/
def s343_0 : List E := [(.lconst 0, 0, []), (.lstore_n 3, 0, [3]), (.iconst 0, 0, []), (.istore 5, 0, [5]), (.nop, 0, [5])]
def s343_5 : List E := [(.iload 5, 0, [5]), (.aload_n 0, 0, [0]), (.getfield 126, 36, [16, 51, 81, 1]), (.iload_n 1, 0, [1]), (.iaload, 0, []), (.if_icmp .ge 53, 0, [66]), (.lload_n 3, 0, [3]), (.iload_n 2, 0, [2]), (.ifCond .eq 21, 0, [39]), (.iload 5, 0, [5]), (.bipush 8, 8, []), (.if_icmp .lt 14, 0, [39]), (.iload 5, 0, [5]), (.bipush 12, 12, []), (.if_icmp .ge 7, 0, [39]), (.lconst 0, 0, []), (.goto 22, 0, [58])]
def s343_39 : List E := [(.aload_n 0, 0, [0]), (.iload_n 1, 0, [1]), (.iload 5, 0, [5]), (.invokevirtual 612, 0, [344, 16, 33, 8, 0, 0, 0, 0]), (.i2l, 0, []), (.bipush 24, 24, []), (.bipush 8, 8, []), (.iload 5, 0, [5]), (.iconst 3, 3, []), (.iand, 0, []), (.imul, 0, []), (.isub, 0, []), (.lshl, 0, []), (.nop, 0, [58])]
def s343_58 : List E := [(.ladd, 0, []), (.lstore_n 3, 0, [3]), (.iinc 5 1, 1, [5]), (.goto (-58), 0, [5])]
def s343_66 : List E := [(.lload_n 3, 0, [3]), (.ldc2_w 341, 4294967295, []), (.land, 0, []), (.lreturn, 0, [])]
def cd343 : List (Nat × List E) := [(0, s343_0), (5, s343_5), (39, s343_39), (58, s343_58), (66, s343_66)]
theorem l343_0 : lkc cd343 0 = s343_0 := rfl
theorem l343_5 : lkc cd343 5 = s343_5 := rfl
theorem l343_39 : lkc cd343 39 = s343_39 := rfl
theorem l343_58 : lkc cd343 58 = s343_58 := rfl
theorem l343_66 : lkc cd343 66 = s343_66 := rfl
theorem k343 : chkM 343 16 true cd343 = true := by decide +kernel
/- FontHouseModel.byteIn(II)I -/
def s344_0 : List E := [(.aload_n 0, 0, [0]), (.getfield 123, 35, [16, 50, 83, 1]), (.sipush 12000, 12000, []), (.iload_n 1, 0, [1]), (.imul, 0, []), (.iload_n 2, 0, [2]), (.iadd, 0, []), (.baload, 0, [41]), (.sipush 255, 255, []), (.iand, 0, []), (.ireturn, 0, [])]
def cd344 : List (Nat × List E) := [(0, s344_0)]
theorem l344_0 : lkc cd344 0 = s344_0 := rfl
theorem k344 : chkM 344 16 true cd344 = true := by decide +kernel
/- FontHouseModel.sayBody(I)V -/
def s345_0 : List E := [(.iconst 0, 0, []), (.istore_n 2, 0, [2]), (.nop, 0, [2])]
def s345_2 : List E := [(.iload_n 2, 0, [2]), (.aload_n 0, 0, [0]), (.getfield 126, 36, [16, 51, 81, 1]), (.iload_n 1, 0, [1]), (.iaload, 0, []), (.if_icmp .ge 40, 0, [49]), (.aload_n 0, 0, [0]), (.getfield 169, 50, [16, 67, 83, 1]), (.aload_n 0, 0, [0]), (.getfield 735, 0, [16, 68, 0]), (.aload_n 0, 0, [0]), (.getfield 123, 35, [16, 50, 83, 1]), (.sipush 12000, 12000, []), (.iload_n 1, 0, [1]), (.imul, 0, []), (.iload_n 2, 0, [2]), (.iadd, 0, []), (.baload, 0, [41]), (.bastore, 0, [41]), (.aload_n 0, 0, [0]), (.dup, 0, []), (.getfield 735, 0, [16, 68, 0]), (.iconst 1, 1, []), (.iadd, 0, []), (.putfield 735, 0, [16, 68, 0]), (.iinc 2 1, 1, [2]), (.goto (-44), 0, [2])]
def s345_49 : List E := [(.aload_n 0, 0, [0]), (.getfield 735, 0, [16, 68, 0]), (.iconst 3, 3, []), (.iand, 0, []), (.ifCond .le 12, 0, [67]), (.aload_n 0, 0, [0]), (.iconst 0, 0, []), (.iconst 1, 1, []), (.invokevirtual 738, 0, [342, 16, 33, 8, 0, 100, 0, 0]), (.goto (-15), 0, [49])]
def s345_67 : List E := [(.return_, 0, [])]
def cd345 : List (Nat × List E) := [(0, s345_0), (2, s345_2), (49, s345_49), (67, s345_67)]
theorem l345_0 : lkc cd345 0 = s345_0 := rfl
theorem l345_2 : lkc cd345 2 = s345_2 := rfl
theorem l345_49 : lkc cd345 49 = s345_49 := rfl
theorem l345_67 : lkc cd345 67 = s345_67 := rfl
theorem k345 : chkM 345 16 true cd345 = true := by decide +kernel
/- FontHouseModel.bodyOf(IJ)I -/
def s346_0 : List E := [(.aload_n 0, 0, [0]), (.iload_n 1, 0, [1]), (.lload_n 2, 0, [2]), (.invokevirtual 636, 0, [320, 16, 33, 8, 0, 0, 5, 0]), (.istore 4, 0, [4]), (.iload 4, 0, [4]), (.ifCond .ge 7, 0, [17]), (.iconst (-1), -1, []), (.goto 15, 0, [29])]
def s346_17 : List E := [(.aload_n 0, 0, [0]), (.getfield 144, 42, [16, 57, 81, 1]), (.bipush 16, 16, []), (.iload_n 1, 0, [1]), (.imul, 0, []), (.iload 4, 0, [4]), (.iadd, 0, []), (.iaload, 0, []), (.nop, 0, [29])]
def s346_29 : List E := [(.ireturn, 0, [])]
def cd346 : List (Nat × List E) := [(0, s346_0), (17, s346_17), (29, s346_29)]
theorem l346_0 : lkc cd346 0 = s346_0 := rfl
theorem l346_17 : lkc cd346 17 = s346_17 := rfl
theorem l346_29 : lkc cd346 29 = s346_29 := rfl
theorem k346 : chkM 346 16 true cd346 = true := by decide +kernel
/- FontHouseModel.laid(I)I -/
def s347_0 : List E := [(.iconst 0, 0, []), (.istore_n 2, 0, [2]), (.nop, 0, [2])]
def s347_2 : List E := [(.iload_n 2, 0, [2]), (.aload_n 0, 0, [0]), (.getfield 735, 0, [16, 68, 0]), (.if_icmp .ge 27, 0, [34]), (.aload_n 0, 0, [0]), (.getfield 8, 1, [16, 0, 83, 1]), (.sipush 16000, 16000, []), (.iload_n 1, 0, [1]), (.imul, 0, []), (.iload_n 2, 0, [2]), (.iadd, 0, []), (.aload_n 0, 0, [0]), (.getfield 169, 50, [16, 67, 83, 1]), (.iload_n 2, 0, [2]), (.baload, 0, [41]), (.bastore, 0, [41]), (.iinc 2 1, 1, [2]), (.goto (-29), 0, [2])]
def s347_34 : List E := [(.aload_n 0, 0, [0]), (.getfield 14, 2, [16, 1, 81, 1]), (.iload_n 1, 0, [1]), (.aload_n 0, 0, [0]), (.getfield 735, 0, [16, 68, 0]), (.iastore, 0, []), (.aload_n 0, 0, [0]), (.getfield 735, 0, [16, 68, 0]), (.ireturn, 0, [])]
def cd347 : List (Nat × List E) := [(0, s347_0), (2, s347_2), (34, s347_34)]
theorem l347_0 : lkc cd347 0 = s347_0 := rfl
theorem l347_2 : lkc cd347 2 = s347_2 := rfl
theorem l347_34 : lkc cd347 34 = s347_34 := rfl
theorem k347 : chkM 347 16 true cd347 = true := by decide +kernel
/- FontHouseModel.saveAll(II)I -/
def s348_0 : List E := [(.iload_n 2, 0, [2]), (.invokestatic 329, 0, [229, 60, 0, 3, 0]), (.ifCond .ne 5, 0, [9]), (.iconst (-1), -1, []), (.ireturn, 0, [])]
def s348_9 : List E := [(.iload_n 1, 0, [1]), (.iconst 1, 1, []), (.if_icmp .lt 9, 0, [20]), (.iload_n 1, 0, [1]), (.bipush 15, 15, []), (.if_icmp .le 6, 0, [23]), (.nop, 0, [20])]
def s348_20 : List E := [(.bipush (-2), -2, []), (.ireturn, 0, [])]
def s348_23 : List E := [(.iconst 0, 0, []), (.istore_n 3, 0, [3]), (.iconst 0, 0, []), (.istore 4, 0, [4]), (.nop, 0, [28])]
def s348_28 : List E := [(.iload 4, 0, [4]), (.iconst 4, 4, []), (.if_icmp .ge 34, 0, [65]), (.iload_n 1, 0, [1]), (.iload 4, 0, [4]), (.ishr, 0, []), (.iconst 1, 1, []), (.iand, 0, []), (.iconst 1, 1, []), (.if_icmp .ne 18, 0, [59]), (.aload_n 0, 0, [0]), (.iload 4, 0, [4]), (.invokevirtual 749, 0, [338, 16, 33, 59, 0, 3, 0]), (.ifCond .ne 6, 0, [56]), (.bipush (-3), -3, []), (.ireturn, 0, [])]
def s348_56 : List E := [(.iinc 3 1, 1, [3]), (.nop, 0, [59])]
def s348_59 : List E := [(.iinc 4 1, 1, [4]), (.goto (-34), 0, [28])]
def s348_65 : List E := [(.aload_n 0, 0, [0]), (.iload_n 1, 0, [1]), (.iconst 1, 1, []), (.ldc2_w 339, -1, []), (.invokevirtual 752, 0, [339, 16, 33, 52, 0, 0, 5, 3, 0]), (.sipush 16000, 16000, []), (.if_icmp .le 6, 0, [83]), (.bipush (-4), -4, []), (.ireturn, 0, [])]
def s348_83 : List E := [(.aload_n 0, 0, [0]), (.iconst 0, 0, []), (.putfield 735, 0, [16, 68, 0]), (.aload_n 0, 0, [0]), (.ldc2_w 698, 1953784678, []), (.invokevirtual 741, 0, [341, 16, 33, 35, 0, 100, 5]), (.aload_n 0, 0, [0]), (.ldc2_w 646, 65536, []), (.invokevirtual 741, 0, [341, 16, 33, 35, 0, 100, 5]), (.aload_n 0, 0, [0]), (.iload_n 3, 0, [3]), (.i2l, 0, []), (.invokevirtual 741, 0, [341, 16, 33, 35, 0, 100, 5]), (.bipush 12, 12, []), (.iconst 4, 4, []), (.iload_n 3, 0, [3]), (.imul, 0, []), (.iadd, 0, []), (.istore 4, 0, [4]), (.iconst 0, 0, []), (.istore 5, 0, [5]), (.nop, 0, [119])]
def s348_119 : List E := [(.iload 5, 0, [5]), (.iconst 4, 4, []), (.if_icmp .ge 44, 0, [166]), (.iload_n 1, 0, [1]), (.iload 5, 0, [5]), (.ishr, 0, []), (.iconst 1, 1, []), (.iand, 0, []), (.iconst 1, 1, []), (.if_icmp .ne 28, 0, [160]), (.aload_n 0, 0, [0]), (.iload 4, 0, [4]), (.i2l, 0, []), (.invokevirtual 741, 0, [341, 16, 33, 35, 0, 100, 5]), (.iload 4, 0, [4]), (.bipush 12, 12, []), (.bipush 16, 16, []), (.aload_n 0, 0, [0]), (.getfield 138, 40, [16, 55, 81, 1]), (.iload 5, 0, [5]), (.iaload, 0, []), (.imul, 0, []), (.iadd, 0, []), (.iadd, 0, []), (.istore 4, 0, [4]), (.nop, 0, [160])]
def s348_160 : List E := [(.iinc 5 1, 1, [5]), (.goto (-44), 0, [119])]
def s348_166 : List E := [(.iconst 0, 0, []), (.istore 5, 0, [5]), (.nop, 0, [169])]
def s348_169 : List E := [(.iload 5, 0, [5]), (.iconst 4, 4, []), (.if_icmp .ge 25, 0, [197]), (.iload_n 1, 0, [1]), (.iload 5, 0, [5]), (.ishr, 0, []), (.iconst 1, 1, []), (.iand, 0, []), (.iconst 1, 1, []), (.if_icmp .ne 9, 0, [191]), (.aload_n 0, 0, [0]), (.iload 5, 0, [5]), (.invokevirtual 756, 0, [340, 16, 33, 8, 0, 100, 0]), (.nop, 0, [191])]
def s348_191 : List E := [(.iinc 5 1, 1, [5]), (.goto (-25), 0, [169])]
def s348_197 : List E := [(.iconst 0, 0, []), (.istore 5, 0, [5]), (.nop, 0, [200])]
def s348_200 : List E := [(.iload 5, 0, [5]), (.iconst 4, 4, []), (.if_icmp .ge 82, 0, [285]), (.iconst 0, 0, []), (.istore 6, 0, [6]), (.nop, 0, [209])]
def s348_209 : List E := [(.iload_n 1, 0, [1]), (.iload 5, 0, [5]), (.ishr, 0, []), (.iconst 1, 1, []), (.iand, 0, []), (.iconst 1, 1, []), (.if_icmp .ne 63, 0, [279]), (.iload 6, 0, [6]), (.aload_n 0, 0, [0]), (.getfield 138, 40, [16, 55, 81, 1]), (.iload 5, 0, [5]), (.iaload, 0, []), (.if_icmp .ge 51, 0, [279]), (.aload_n 0, 0, [0]), (.getfield 172, 51, [16, 69, 81, 1]), (.aload_n 0, 0, [0]), (.getfield 144, 42, [16, 57, 81, 1]), (.bipush 16, 16, []), (.iload 5, 0, [5]), (.imul, 0, []), (.iload 6, 0, [6]), (.iadd, 0, []), (.iaload, 0, []), (.iaload, 0, []), (.aload_n 0, 0, [0]), (.getfield 735, 0, [16, 68, 0]), (.if_icmp .ne 20, 0, [273]), (.aload_n 0, 0, [0]), (.aload_n 0, 0, [0]), (.getfield 144, 42, [16, 57, 81, 1]), (.bipush 16, 16, []), (.iload 5, 0, [5]), (.imul, 0, []), (.iload 6, 0, [6]), (.iadd, 0, []), (.iaload, 0, []), (.invokevirtual 759, 0, [345, 16, 33, 35, 0, 100, 0]), (.nop, 0, [273])]
def s348_273 : List E := [(.iinc 6 1, 1, [6]), (.goto (-67), 0, [209])]
def s348_279 : List E := [(.iinc 5 1, 1, [5]), (.goto (-82), 0, [200])]
def s348_285 : List E := [(.aload_n 0, 0, [0]), (.iload_n 2, 0, [2]), (.invokevirtual 765, 0, [347, 16, 33, 58, 0, 0, 0]), (.ireturn, 0, [])]
def cd348 : List (Nat × List E) := [(0, s348_0), (9, s348_9), (20, s348_20), (23, s348_23), (28, s348_28), (56, s348_56), (59, s348_59), (65, s348_65), (83, s348_83), (119, s348_119), (160, s348_160), (166, s348_166), (169, s348_169), (191, s348_191), (197, s348_197), (200, s348_200), (209, s348_209), (273, s348_273), (279, s348_279), (285, s348_285)]
theorem l348_0 : lkc cd348 0 = s348_0 := rfl
theorem l348_9 : lkc cd348 9 = s348_9 := rfl
theorem l348_20 : lkc cd348 20 = s348_20 := rfl
theorem l348_23 : lkc cd348 23 = s348_23 := rfl
theorem l348_28 : lkc cd348 28 = s348_28 := rfl
theorem l348_56 : lkc cd348 56 = s348_56 := rfl
theorem l348_59 : lkc cd348 59 = s348_59 := rfl
theorem l348_65 : lkc cd348 65 = s348_65 := rfl
theorem l348_83 : lkc cd348 83 = s348_83 := rfl
theorem l348_119 : lkc cd348 119 = s348_119 := rfl
theorem l348_160 : lkc cd348 160 = s348_160 := rfl
theorem l348_166 : lkc cd348 166 = s348_166 := rfl
theorem l348_169 : lkc cd348 169 = s348_169 := rfl
theorem l348_191 : lkc cd348 191 = s348_191 := rfl
theorem l348_197 : lkc cd348 197 = s348_197 := rfl
theorem l348_200 : lkc cd348 200 = s348_200 := rfl
theorem l348_209 : lkc cd348 209 = s348_209 := rfl
theorem l348_273 : lkc cd348 273 = s348_273 := rfl
theorem l348_279 : lkc cd348 279 = s348_279 := rfl
theorem l348_285 : lkc cd348 285 = s348_285 := rfl
theorem k348 : chkM 348 16 true cd348 = true := by decide +kernel
/- FontHouseModel.leave(I)I -/
def s349_0 : List E := [(.iload_n 1, 0, [1]), (.invokestatic 640, 0, [312, 8, 0, 3, 0]), (.ifCond .ne 5, 0, [9]), (.iconst (-1), -1, []), (.ireturn, 0, [])]
def s349_9 : List E := [(.aload_n 0, 0, [0]), (.getfield 132, 38, [16, 53, 89, 1]), (.iload_n 1, 0, [1]), (.baload, 0, [44]), (.ifCond .eq 7, 0, [22]), (.iconst 1, 1, []), (.goto 4, 0, [23])]
def s349_22 : List E := [(.iconst 0, 0, []), (.nop, 0, [23])]
def s349_23 : List E := [(.istore_n 2, 0, [2]), (.aload_n 0, 0, [0]), (.getfield 132, 38, [16, 53, 89, 1]), (.iload_n 1, 0, [1]), (.iconst 0, 0, []), (.bastore, 0, []), (.iload_n 2, 0, [2]), (.ireturn, 0, [])]
def cd349 : List (Nat × List E) := [(0, s349_0), (9, s349_9), (22, s349_22), (23, s349_23)]
theorem l349_0 : lkc cd349 0 = s349_0 := rfl
theorem l349_9 : lkc cd349 9 = s349_9 := rfl
theorem l349_22 : lkc cd349 22 = s349_22 := rfl
theorem l349_23 : lkc cd349 23 = s349_23 := rfl
theorem k349 : chkM 349 16 true cd349 = true := by decide +kernel
