set_option maxRecDepth 100000
/- FontHouseModel.turnTwo(II)V -/
def s425_0 : List E := [(.aload_n 0, 0, [0]), (.iload_n 1, 0, [1]), (.iload_n 2, 0, [2]), (.bipush 8, 8, []), (.ishr, 0, []), (.invokevirtual 1092, 0, [423, 16, 33, 8, 0, 100, 0, 0]), (.aload_n 0, 0, [0]), (.iload_n 1, 0, [1]), (.iload_n 2, 0, [2]), (.invokevirtual 1092, 0, [423, 16, 33, 8, 0, 100, 0, 0]), (.return_, 0, [])]
def cd425 : List (Nat × List E) := [(0, s425_0)]
theorem l425_0 : lkc cd425 0 = s425_0 := rfl
theorem k425 : chkM 425 16 true cd425 = true := by decide +kernel
/- FontHouseModel.turnShort(II)V -/
def s426_0 : List E := [(.iload_n 2, 0, [2]), (.sipush 253, 253, []), (.if_icmp .ge 12, 0, [16]), (.aload_n 0, 0, [0]), (.iload_n 1, 0, [1]), (.iload_n 2, 0, [2]), (.invokevirtual 1092, 0, [423, 16, 33, 30, 0, 100, 0, 0]), (.goto 73, 0, [86])]
def s426_16 : List E := [(.iload_n 2, 0, [2]), (.sipush 506, 506, []), (.if_icmp .ge 24, 0, [44]), (.aload_n 0, 0, [0]), (.iload_n 1, 0, [1]), (.sipush 255, 255, []), (.invokevirtual 1092, 0, [423, 16, 33, 30, 0, 100, 0, 0]), (.aload_n 0, 0, [0]), (.iload_n 1, 0, [1]), (.iload_n 2, 0, [2]), (.sipush 253, 253, []), (.isub, 0, []), (.invokevirtual 1092, 0, [423, 16, 33, 30, 0, 100, 0, 0]), (.goto 45, 0, [86])]
def s426_44 : List E := [(.iload_n 2, 0, [2]), (.sipush 762, 762, []), (.if_icmp .ge 24, 0, [72]), (.aload_n 0, 0, [0]), (.iload_n 1, 0, [1]), (.sipush 254, 254, []), (.invokevirtual 1092, 0, [423, 16, 33, 30, 0, 100, 0, 0]), (.aload_n 0, 0, [0]), (.iload_n 1, 0, [1]), (.iload_n 2, 0, [2]), (.sipush 506, 506, []), (.isub, 0, []), (.invokevirtual 1092, 0, [423, 16, 33, 30, 0, 100, 0, 0]), (.goto 17, 0, [86])]
def s426_72 : List E := [(.aload_n 0, 0, [0]), (.iload_n 1, 0, [1]), (.sipush 253, 253, []), (.invokevirtual 1092, 0, [423, 16, 33, 30, 0, 100, 0, 0]), (.aload_n 0, 0, [0]), (.iload_n 1, 0, [1]), (.iload_n 2, 0, [2]), (.invokevirtual 1095, 0, [425, 16, 33, 8, 0, 100, 0, 0]), (.nop, 0, [86])]
def s426_86 : List E := [(.return_, 0, [])]
def cd426 : List (Nat × List E) := [(0, s426_0), (16, s426_16), (44, s426_44), (72, s426_72), (86, s426_86)]
theorem l426_0 : lkc cd426 0 = s426_0 := rfl
theorem l426_16 : lkc cd426 16 = s426_16 := rfl
theorem l426_44 : lkc cd426 44 = s426_44 := rfl
theorem l426_72 : lkc cd426 72 = s426_72 := rfl
theorem l426_86 : lkc cd426 86 = s426_86 := rfl
theorem k426 : chkM 426 16 true cd426 = true := by decide +kernel
/- FontHouseModel.turnPoint(IIZ)V -/
def s427_0 : List E := [(.iload_n 1, 0, [1]), (.ifCond .ge 8, 0, [9]), (.iload_n 1, 0, [1]), (.ineg, 0, []), (.goto 4, 0, [10])]
def s427_9 : List E := [(.iload_n 1, 0, [1]), (.nop, 0, [10])]
def s427_10 : List E := [(.istore 4, 0, [4]), (.iload_n 2, 0, [2]), (.ifCond .ge 8, 0, [21]), (.iload_n 2, 0, [2]), (.ineg, 0, []), (.goto 4, 0, [22])]
def s427_21 : List E := [(.iload_n 2, 0, [2]), (.nop, 0, [22])]
def s427_22 : List E := [(.istore 5, 0, [5]), (.iload_n 1, 0, [1]), (.ifCond .ge 7, 0, [32]), (.iconst 0, 0, []), (.goto 4, 0, [33])]
def s427_32 : List E := [(.iconst 1, 1, []), (.nop, 0, [33])]
def s427_33 : List E := [(.istore 6, 0, [6]), (.iload_n 2, 0, [2]), (.ifCond .ge 7, 0, [43]), (.iconst 0, 0, []), (.goto 4, 0, [44])]
def s427_43 : List E := [(.iconst 1, 1, []), (.nop, 0, [44])]
def s427_44 : List E := [(.istore 7, 0, [7]), (.iload_n 3, 0, [3]), (.ifCond .eq 7, 0, [54]), (.iconst 0, 0, []), (.goto 6, 0, [57])]
def s427_54 : List E := [(.sipush 128, 128, []), (.nop, 0, [57])]
def s427_57 : List E := [(.istore 8, 0, [8]), (.iload_n 1, 0, [1]), (.ifCond .ne 44, 0, [104]), (.iload 5, 0, [5]), (.sipush 1280, 1280, []), (.if_icmp .ge 36, 0, [104]), (.aload_n 0, 0, [0]), (.iconst 2, 2, []), (.iload 8, 0, [8]), (.iload 5, 0, [5]), (.sipush 256, 256, []), (.idiv, 0, []), (.iconst 2, 2, []), (.imul, 0, []), (.iadd, 0, []), (.iload 7, 0, [7]), (.iadd, 0, []), (.invokevirtual 1092, 0, [423, 16, 33, 30, 0, 100, 0, 0]), (.aload_n 0, 0, [0]), (.iconst 3, 3, []), (.iload 5, 0, [5]), (.sipush 256, 256, []), (.irem, 0, []), (.invokevirtual 1092, 0, [423, 16, 33, 30, 0, 100, 0, 0]), (.goto 326, 0, [427])]
def s427_104 : List E := [(.iload_n 2, 0, [2]), (.ifCond .ne 47, 0, [152]), (.iload 4, 0, [4]), (.sipush 1280, 1280, []), (.if_icmp .ge 39, 0, [152]), (.aload_n 0, 0, [0]), (.iconst 2, 2, []), (.iload 8, 0, [8]), (.bipush 10, 10, []), (.iadd, 0, []), (.iload 4, 0, [4]), (.sipush 256, 256, []), (.idiv, 0, []), (.iconst 2, 2, []), (.imul, 0, []), (.iadd, 0, []), (.iload 6, 0, [6]), (.iadd, 0, []), (.invokevirtual 1092, 0, [423, 16, 33, 30, 0, 100, 0, 0]), (.aload_n 0, 0, [0]), (.iconst 3, 3, []), (.iload 4, 0, [4]), (.sipush 256, 256, []), (.irem, 0, []), (.invokevirtual 1092, 0, [423, 16, 33, 30, 0, 100, 0, 0]), (.goto 278, 0, [427])]
def s427_152 : List E := [(.iload 4, 0, [4]), (.bipush 65, 65, []), (.if_icmp .ge 75, 0, [231]), (.iload 5, 0, [5]), (.bipush 65, 65, []), (.if_icmp .ge 68, 0, [231]), (.aload_n 0, 0, [0]), (.iconst 2, 2, []), (.iload 8, 0, [8]), (.bipush 20, 20, []), (.iadd, 0, []), (.iload 4, 0, [4]), (.iconst 1, 1, []), (.isub, 0, []), (.bipush 16, 16, []), (.idiv, 0, []), (.bipush 16, 16, []), (.imul, 0, []), (.iadd, 0, []), (.iload 5, 0, [5]), (.iconst 1, 1, []), (.isub, 0, []), (.bipush 16, 16, []), (.idiv, 0, []), (.iconst 4, 4, []), (.imul, 0, []), (.iadd, 0, []), (.iload 6, 0, [6]), (.iadd, 0, []), (.iconst 2, 2, []), (.iload 7, 0, [7]), (.imul, 0, []), (.iadd, 0, []), (.invokevirtual 1092, 0, [423, 16, 33, 30, 0, 100, 0, 0]), (.aload_n 0, 0, [0]), (.iconst 3, 3, []), (.iload 4, 0, [4]), (.iconst 1, 1, []), (.isub, 0, []), (.bipush 16, 16, []), (.irem, 0, []), (.bipush 16, 16, []), (.imul, 0, []), (.iload 5, 0, [5]), (.iconst 1, 1, []), (.isub, 0, []), (.bipush 16, 16, []), (.irem, 0, []), (.iadd, 0, []), (.invokevirtual 1092, 0, [423, 16, 33, 30, 0, 100, 0, 0]), (.goto 199, 0, [427])]
def s427_231 : List E := [(.iload 4, 0, [4]), (.sipush 769, 769, []), (.if_icmp .ge 81, 0, [317]), (.iload 5, 0, [5]), (.sipush 769, 769, []), (.if_icmp .ge 73, 0, [317]), (.aload_n 0, 0, [0]), (.iconst 2, 2, []), (.iload 8, 0, [8]), (.bipush 84, 84, []), (.iadd, 0, []), (.iload 4, 0, [4]), (.iconst 1, 1, []), (.isub, 0, []), (.sipush 256, 256, []), (.idiv, 0, []), (.bipush 12, 12, []), (.imul, 0, []), (.iadd, 0, []), (.iload 5, 0, [5]), (.iconst 1, 1, []), (.isub, 0, []), (.sipush 256, 256, []), (.idiv, 0, []), (.iconst 4, 4, []), (.imul, 0, []), (.iadd, 0, []), (.iload 6, 0, [6]), (.iadd, 0, []), (.iconst 2, 2, []), (.iload 7, 0, [7]), (.imul, 0, []), (.iadd, 0, []), (.invokevirtual 1092, 0, [423, 16, 33, 30, 0, 100, 0, 0]), (.aload_n 0, 0, [0]), (.iconst 3, 3, []), (.iload 4, 0, [4]), (.iconst 1, 1, []), (.isub, 0, []), (.sipush 256, 256, []), (.irem, 0, []), (.invokevirtual 1092, 0, [423, 16, 33, 30, 0, 100, 0, 0]), (.aload_n 0, 0, [0]), (.iconst 3, 3, []), (.iload 5, 0, [5]), (.iconst 1, 1, []), (.isub, 0, []), (.sipush 256, 256, []), (.irem, 0, []), (.invokevirtual 1092, 0, [423, 16, 33, 30, 0, 100, 0, 0]), (.goto 113, 0, [427])]
def s427_317 : List E := [(.iload 4, 0, [4]), (.sipush 4096, 4096, []), (.if_icmp .ge 73, 0, [395]), (.iload 5, 0, [5]), (.sipush 4096, 4096, []), (.if_icmp .ge 65, 0, [395]), (.aload_n 0, 0, [0]), (.iconst 2, 2, []), (.iload 8, 0, [8]), (.bipush 120, 120, []), (.iadd, 0, []), (.iload 6, 0, [6]), (.iadd, 0, []), (.iconst 2, 2, []), (.iload 7, 0, [7]), (.imul, 0, []), (.iadd, 0, []), (.invokevirtual 1092, 0, [423, 16, 33, 30, 0, 100, 0, 0]), (.aload_n 0, 0, [0]), (.iconst 3, 3, []), (.iload 4, 0, [4]), (.bipush 16, 16, []), (.idiv, 0, []), (.invokevirtual 1092, 0, [423, 16, 33, 30, 0, 100, 0, 0]), (.aload_n 0, 0, [0]), (.iconst 3, 3, []), (.iload 4, 0, [4]), (.bipush 16, 16, []), (.irem, 0, []), (.bipush 16, 16, []), (.imul, 0, []), (.iload 5, 0, [5]), (.sipush 256, 256, []), (.idiv, 0, []), (.iadd, 0, []), (.invokevirtual 1092, 0, [423, 16, 33, 30, 0, 100, 0, 0]), (.aload_n 0, 0, [0]), (.iconst 3, 3, []), (.iload 5, 0, [5]), (.sipush 256, 256, []), (.irem, 0, []), (.invokevirtual 1092, 0, [423, 16, 33, 30, 0, 100, 0, 0]), (.goto 35, 0, [427])]
def s427_395 : List E := [(.aload_n 0, 0, [0]), (.iconst 2, 2, []), (.iload 8, 0, [8]), (.bipush 124, 124, []), (.iadd, 0, []), (.iload 6, 0, [6]), (.iadd, 0, []), (.iconst 2, 2, []), (.iload 7, 0, [7]), (.imul, 0, []), (.iadd, 0, []), (.invokevirtual 1092, 0, [423, 16, 33, 30, 0, 100, 0, 0]), (.aload_n 0, 0, [0]), (.iconst 3, 3, []), (.iload 4, 0, [4]), (.invokevirtual 1095, 0, [425, 16, 33, 8, 0, 100, 0, 0]), (.aload_n 0, 0, [0]), (.iconst 3, 3, []), (.iload 5, 0, [5]), (.invokevirtual 1095, 0, [425, 16, 33, 8, 0, 100, 0, 0]), (.nop, 0, [427])]
def s427_427 : List E := [(.return_, 0, [])]
def cd427 : List (Nat × List E) := [(0, s427_0), (9, s427_9), (10, s427_10), (21, s427_21), (22, s427_22), (32, s427_32), (33, s427_33), (43, s427_43), (44, s427_44), (54, s427_54), (57, s427_57), (104, s427_104), (152, s427_152), (231, s427_231), (317, s427_317), (395, s427_395), (427, s427_427)]
theorem l427_0 : lkc cd427 0 = s427_0 := rfl
theorem l427_9 : lkc cd427 9 = s427_9 := rfl
theorem l427_10 : lkc cd427 10 = s427_10 := rfl
theorem l427_21 : lkc cd427 21 = s427_21 := rfl
theorem l427_22 : lkc cd427 22 = s427_22 := rfl
theorem l427_32 : lkc cd427 32 = s427_32 := rfl
theorem l427_33 : lkc cd427 33 = s427_33 := rfl
theorem l427_43 : lkc cd427 43 = s427_43 := rfl
theorem l427_44 : lkc cd427 44 = s427_44 := rfl
theorem l427_54 : lkc cd427 54 = s427_54 := rfl
theorem l427_57 : lkc cd427 57 = s427_57 := rfl
theorem l427_104 : lkc cd427 104 = s427_104 := rfl
theorem l427_152 : lkc cd427 152 = s427_152 := rfl
theorem l427_231 : lkc cd427 231 = s427_231 := rfl
theorem l427_317 : lkc cd427 317 = s427_317 := rfl
theorem l427_395 : lkc cd427 395 = s427_395 := rfl
theorem l427_427 : lkc cd427 427 = s427_427 := rfl
theorem k427 : chkM 427 16 true cd427 = true := by decide +kernel
/- FontHouseModel.isBoxTold()Z -/
def s428_0 : List E := [(.aload_n 0, 0, [0]), (.getfield 808, 0, [16, 73, 0]), (.ifCond .gt 16, 0, [20]), (.aload_n 0, 0, [0]), (.getfield 808, 0, [16, 73, 0]), (.ifCond .ge 7, 0, [18]), (.iconst 1, 1, []), (.goto 4, 0, [19])]
def s428_18 : List E := [(.iconst 0, 0, []), (.nop, 0, [19])]
def s428_19 : List E := [(.ireturn, 0, [1])]
def s428_20 : List E := [(.iconst 0, 0, []), (.istore_n 1, 0, [1]), (.nop, 0, [22])]
def s428_22 : List E := [(.iload_n 1, 0, [1]), (.iconst 4, 4, []), (.if_icmp .ge 21, 0, [45]), (.aload_n 0, 0, [0]), (.getfield 302, 94, [16, 138, 81, 1]), (.iload_n 1, 0, [1]), (.aload_n 0, 0, [0]), (.getfield 175, 52, [16, 79, 81, 1]), (.iload_n 1, 0, [1]), (.iaload, 0, []), (.iastore, 0, []), (.iinc 1 1, 1, [1]), (.goto (-20), 0, [22])]
def s428_45 : List E := [(.aload_n 0, 0, [0]), (.invokevirtual 940, 0, [405, 16, 33, 8, 0, 100]), (.iconst 0, 0, []), (.istore_n 1, 0, [1]), (.iconst 0, 0, []), (.istore_n 2, 0, [2]), (.nop, 0, [53])]
def s428_53 : List E := [(.iload_n 2, 0, [2]), (.iconst 4, 4, []), (.if_icmp .ge 46, 0, [101]), (.iload_n 1, 0, [1]), (.ifCond .ne 18, 0, [77]), (.aload_n 0, 0, [0]), (.getfield 302, 94, [16, 138, 81, 1]), (.iload_n 2, 0, [2]), (.iaload, 0, []), (.aload_n 0, 0, [0]), (.getfield 175, 52, [16, 79, 81, 1]), (.iload_n 2, 0, [2]), (.iaload, 0, []), (.if_icmp .eq 7, 0, [81]), (.nop, 0, [77])]
def s428_77 : List E := [(.iconst 1, 1, []), (.goto 4, 0, [82])]
def s428_81 : List E := [(.iconst 0, 0, []), (.nop, 0, [82])]
def s428_82 : List E := [(.istore_n 1, 0, [1]), (.aload_n 0, 0, [0]), (.getfield 175, 52, [16, 79, 81, 1]), (.iload_n 2, 0, [2]), (.aload_n 0, 0, [0]), (.getfield 302, 94, [16, 138, 81, 1]), (.iload_n 2, 0, [2]), (.iaload, 0, []), (.iastore, 0, []), (.iinc 2 1, 1, [2]), (.goto (-45), 0, [53])]
def s428_101 : List E := [(.iload_n 1, 0, [1]), (.ireturn, 0, [1])]
def cd428 : List (Nat × List E) := [(0, s428_0), (18, s428_18), (19, s428_19), (20, s428_20), (22, s428_22), (45, s428_45), (53, s428_53), (77, s428_77), (81, s428_81), (82, s428_82), (101, s428_101)]
theorem l428_0 : lkc cd428 0 = s428_0 := rfl
theorem l428_18 : lkc cd428 18 = s428_18 := rfl
theorem l428_19 : lkc cd428 19 = s428_19 := rfl
theorem l428_20 : lkc cd428 20 = s428_20 := rfl
theorem l428_22 : lkc cd428 22 = s428_22 := rfl
theorem l428_45 : lkc cd428 45 = s428_45 := rfl
theorem l428_53 : lkc cd428 53 = s428_53 := rfl
theorem l428_77 : lkc cd428 77 = s428_77 := rfl
theorem l428_81 : lkc cd428 81 = s428_81 := rfl
theorem l428_82 : lkc cd428 82 = s428_82 := rfl
theorem l428_101 : lkc cd428 101 = s428_101 := rfl
theorem k428 : chkM 428 16 true cd428 = true := by decide +kernel
/- FontHouseModel.addTwo(I)V -/
def s429_0 : List E := [(.aload_n 0, 0, [0]), (.iload_n 1, 0, [1]), (.bipush 8, 8, []), (.ishr, 0, []), (.invokevirtual 1105, 0, [430, 16, 33, 8, 0, 100, 0]), (.aload_n 0, 0, [0]), (.iload_n 1, 0, [1]), (.invokevirtual 1105, 0, [430, 16, 33, 8, 0, 100, 0]), (.return_, 0, [])]
def cd429 : List (Nat × List E) := [(0, s429_0)]
theorem l429_0 : lkc cd429 0 = s429_0 := rfl
theorem k429 : chkM 429 16 true cd429 = true := by decide +kernel
/- FontHouseModel.addByte(I)V -/
def s430_0 : List E := [(.aload_n 0, 0, [0]), (.getfield 599, 0, [16, 29, 0]), (.sipush 16000, 16000, []), (.if_icmp .ge 14, 0, [21]), (.aload_n 0, 0, [0]), (.getfield 75, 20, [16, 28, 83, 1]), (.aload_n 0, 0, [0]), (.getfield 599, 0, [16, 29, 0]), (.iload_n 1, 0, [1]), (.i2b, 0, []), (.bastore, 0, [41]), (.nop, 0, [21])]
def s430_21 : List E := [(.aload_n 0, 0, [0]), (.dup, 0, []), (.getfield 599, 0, [16, 29, 0]), (.iconst 1, 1, []), (.iadd, 0, []), (.putfield 599, 0, [16, 29, 0]), (.return_, 0, [])]
def cd430 : List (Nat × List E) := [(0, s430_0), (21, s430_21)]
theorem l430_0 : lkc cd430 0 = s430_0 := rfl
theorem l430_21 : lkc cd430 21 = s430_21 := rfl
theorem k430 : chkM 430 16 true cd430 = true := by decide +kernel
/- FontHouseModel.addFour(I)V -/
def s431_0 : List E := [(.aload_n 0, 0, [0]), (.iload_n 1, 0, [1]), (.bipush 16, 16, []), (.ishr, 0, []), (.invokevirtual 1108, 0, [429, 16, 33, 8, 0, 100, 0]), (.aload_n 0, 0, [0]), (.iload_n 1, 0, [1]), (.invokevirtual 1108, 0, [429, 16, 33, 8, 0, 100, 0]), (.return_, 0, [])]
def cd431 : List (Nat × List E) := [(0, s431_0)]
theorem l431_0 : lkc cd431 0 = s431_0 := rfl
theorem k431 : chkM 431 16 true cd431 = true := by decide +kernel
/- FontHouseModel.laidOf(I)I -/
def s432_0 : List E := [(.aload_n 0, 0, [0]), (.iconst 0, 0, []), (.putfield 860, 0, [16, 96, 0]), (.iconst 0, 0, []), (.istore_n 2, 0, [2]), (.nop, 0, [7])]
def s432_7 : List E := [(.iload_n 2, 0, [2]), (.aload_n 0, 0, [0]), (.getfield 782, 0, [16, 70, 0]), (.if_icmp .ge 19, 0, [31]), (.aload_n 0, 0, [0]), (.iload_n 1, 0, [1]), (.iload_n 2, 0, [2]), (.invokevirtual 899, 0, [381, 16, 33, 8, 0, 100, 0, 0]), (.aload_n 0, 0, [0]), (.invokevirtual 948, 0, [406, 16, 33, 61, 0, 100]), (.iinc 2 1, 1, [2]), (.goto (-21), 0, [7])]
def s432_31 : List E := [(.aload_n 0, 0, [0]), (.getfield 860, 0, [16, 96, 0]), (.ireturn, 0, [])]
def cd432 : List (Nat × List E) := [(0, s432_0), (7, s432_7), (31, s432_31)]
theorem l432_0 : lkc cd432 0 = s432_0 := rfl
theorem l432_7 : lkc cd432 7 = s432_7 := rfl
theorem l432_31 : lkc cd432 31 = s432_31 := rfl
theorem k432 : chkM 432 16 true cd432 = true := by decide +kernel
/- FontHouseModel.addBody(IZ)V -/
def s433_0 : List E := [(.iconst 0, 0, []), (.istore_n 3, 0, [3]), (.nop, 0, [2])]
def s433_2 : List E := [(.iload_n 3, 0, [3]), (.aload_n 0, 0, [0]), (.getfield 126, 36, [16, 51, 81, 1]), (.iload_n 1, 0, [1]), (.iaload, 0, []), (.if_icmp .ge 52, 0, [61]), (.aload_n 0, 0, [0]), (.iload_n 1, 0, [1]), (.iload_n 3, 0, [3]), (.invokevirtual 612, 0, [344, 16, 33, 8, 0, 0, 0, 0]), (.istore 4, 0, [4]), (.aload_n 0, 0, [0]), (.iload_n 2, 0, [2]), (.ifCond .eq 28, 0, [50]), (.aload_n 0, 0, [0]), (.getfield 126, 36, [16, 51, 81, 1]), (.iload_n 1, 0, [1]), (.iaload, 0, []), (.bipush 18, 18, []), (.if_icmp .lt 17, 0, [50]), (.iload_n 3, 0, [3]), (.bipush 16, 16, []), (.if_icmp .ne 11, 0, [50]), (.iload 4, 0, [4]), (.bipush 8, 8, []), (.ior, 0, []), (.goto 5, 0, [52])]
def s433_50 : List E := [(.iload 4, 0, [4]), (.nop, 0, [52])]
def s433_52 : List E := [(.invokevirtual 1105, 0, [430, 16, 33, 9, 0, 100, 0]), (.iinc 3 1, 1, [3]), (.goto (-56), 0, [2])]
def s433_61 : List E := [(.return_, 0, [])]
def cd433 : List (Nat × List E) := [(0, s433_0), (2, s433_2), (50, s433_50), (52, s433_52), (61, s433_61)]
theorem l433_0 : lkc cd433 0 = s433_0 := rfl
theorem l433_2 : lkc cd433 2 = s433_2 := rfl
theorem l433_50 : lkc cd433 50 = s433_50 := rfl
theorem l433_52 : lkc cd433 52 = s433_52 := rfl
theorem l433_61 : lkc cd433 61 = s433_61 := rfl
theorem k433 : chkM 433 16 true cd433 = true := by decide +kernel
/- FontHouseModel.hems(I)I -/
def s434_0 : List E := [(.aload_n 0, 0, [0]), (.iload_n 1, 0, [1]), (.iconst 1, 1, []), (.invokevirtual 884, 0, [378, 16, 33, 8, 0, 3, 3, 0]), (.ifCond .ne 5, 0, [11]), (.iconst 0, 0, []), (.ireturn, 0, [])]
def s434_11 : List E := [(.aload_n 0, 0, [0]), (.iload_n 1, 0, [1]), (.ldc2_w 668, 1752003704, []), (.invokevirtual 762, 0, [346, 16, 33, 155, 0, 0, 5, 0]), (.istore_n 2, 0, [2]), (.iconst 1, 1, []), (.istore_n 3, 0, [3]), (.aload_n 0, 0, [0]), (.getfield 785, 0, [16, 71, 0]), (.aload_n 0, 0, [0]), (.getfield 782, 0, [16, 70, 0]), (.if_icmp .ge 7, 0, [37]), (.iconst 2, 2, []), (.goto 4, 0, [38])]
def s434_37 : List E := [(.iconst 0, 0, []), (.nop, 0, [38])]
def s434_38 : List E := [(.istore 4, 0, [4]), (.iconst 0, 0, []), (.istore 5, 0, [5]), (.nop, 0, [43])]
def s434_43 : List E := [(.iload 5, 0, [5]), (.aload_n 0, 0, [0]), (.getfield 782, 0, [16, 70, 0]), (.if_icmp .ge 64, 0, [113]), (.aload_n 0, 0, [0]), (.iload_n 1, 0, [1]), (.iload 5, 0, [5]), (.invokevirtual 899, 0, [381, 16, 33, 43, 0, 100, 0, 0]), (.aload_n 0, 0, [0]), (.getfield 175, 52, [16, 79, 81, 1]), (.iconst 0, 0, []), (.iaload, 0, []), (.aload_n 0, 0, [0]), (.iload_n 2, 0, [2]), (.iload 5, 0, [5]), (.invokevirtual 905, 0, [384, 16, 33, 115, 0, 0, 0, 0]), (.if_icmp .eq 35, 0, [107]), (.iload 5, 0, [5]), (.aload_n 0, 0, [0]), (.getfield 785, 0, [16, 71, 0]), (.if_icmp .ge 7, 0, [88]), (.iconst 0, 0, []), (.goto 4, 0, [89])]
def s434_88 : List E := [(.iload_n 3, 0, [3]), (.nop, 0, [89])]
def s434_89 : List E := [(.istore_n 3, 0, [3]), (.iload 5, 0, [5]), (.aload_n 0, 0, [0]), (.getfield 785, 0, [16, 71, 0]), (.if_icmp .ge 8, 0, [104]), (.iload 4, 0, [4]), (.goto 4, 0, [105])]
def s434_104 : List E := [(.iconst 0, 0, []), (.nop, 0, [105])]
def s434_105 : List E := [(.istore 4, 0, [4]), (.nop, 0, [107])]
def s434_107 : List E := [(.iinc 5 1, 1, [5]), (.goto (-67), 0, [43])]
def s434_113 : List E := [(.iload_n 3, 0, [3]), (.iload 4, 0, [4]), (.iadd, 0, []), (.ireturn, 0, [])]
def cd434 : List (Nat × List E) := [(0, s434_0), (11, s434_11), (37, s434_37), (38, s434_38), (43, s434_43), (88, s434_88), (89, s434_89), (104, s434_104), (105, s434_105), (107, s434_107), (113, s434_113)]
theorem l434_0 : lkc cd434 0 = s434_0 := rfl
theorem l434_11 : lkc cd434 11 = s434_11 := rfl
theorem l434_37 : lkc cd434 37 = s434_37 := rfl
theorem l434_38 : lkc cd434 38 = s434_38 := rfl
theorem l434_43 : lkc cd434 43 = s434_43 := rfl
theorem l434_88 : lkc cd434 88 = s434_88 := rfl
theorem l434_89 : lkc cd434 89 = s434_89 := rfl
theorem l434_104 : lkc cd434 104 = s434_104 := rfl
theorem l434_105 : lkc cd434 105 = s434_105 := rfl
theorem l434_107 : lkc cd434 107 = s434_107 := rfl
theorem l434_113 : lkc cd434 113 = s434_113 := rfl
theorem k434 : chkM 434 16 true cd434 = true := by decide +kernel
/- FontHouseModel.turnHmtx(II)V -/
def s435_0 : List E := [(.aload_n 0, 0, [0]), (.iload_n 1, 0, [1]), (.iconst 1, 1, []), (.invokevirtual 884, 0, [378, 16, 33, 8, 0, 3, 3, 0]), (.pop, 0, []), (.aload_n 0, 0, [0]), (.iload_n 1, 0, [1]), (.ldc2_w 668, 1752003704, []), (.invokevirtual 762, 0, [346, 16, 33, 155, 0, 0, 5, 0]), (.istore_n 3, 0, [3]), (.aload_n 0, 0, [0]), (.iload_n 2, 0, [2]), (.invokevirtual 1105, 0, [430, 16, 33, 182, 0, 100, 0]), (.iconst 0, 0, []), (.istore 4, 0, [4]), (.nop, 0, [24])]
def s435_24 : List E := [(.iload 4, 0, [4]), (.aload_n 0, 0, [0]), (.getfield 785, 0, [16, 71, 0]), (.if_icmp .ge 20, 0, [50]), (.aload_n 0, 0, [0]), (.aload_n 0, 0, [0]), (.iload_n 3, 0, [3]), (.iload 4, 0, [4]), (.invokevirtual 902, 0, [383, 16, 33, 137, 0, 0, 0, 0]), (.invokevirtual 1108, 0, [429, 16, 33, 161, 0, 100, 0]), (.iinc 4 1, 1, [4]), (.goto (-23), 0, [24])]
def s435_50 : List E := [(.iconst 0, 0, []), (.istore 4, 0, [4]), (.nop, 0, [53])]
def s435_53 : List E := [(.iload 4, 0, [4]), (.aload_n 0, 0, [0]), (.getfield 782, 0, [16, 70, 0]), (.if_icmp .ge 39, 0, [98]), (.iload 4, 0, [4]), (.aload_n 0, 0, [0]), (.getfield 785, 0, [16, 71, 0]), (.if_icmp .ge 7, 0, [75]), (.iconst 1, 1, []), (.goto 4, 0, [76])]
def s435_75 : List E := [(.iconst 2, 2, []), (.nop, 0, [76])]
def s435_76 : List E := [(.iload_n 2, 0, [2]), (.iand, 0, []), (.ifCond .ne 14, 0, [92]), (.aload_n 0, 0, [0]), (.aload_n 0, 0, [0]), (.iload_n 3, 0, [3]), (.iload 4, 0, [4]), (.invokevirtual 905, 0, [384, 16, 33, 115, 0, 0, 0, 0]), (.invokevirtual 1108, 0, [429, 16, 33, 161, 0, 100, 0]), (.nop, 0, [92])]
def s435_92 : List E := [(.iinc 4 1, 1, [4]), (.goto (-42), 0, [53])]
def s435_98 : List E := [(.return_, 0, [])]
def cd435 : List (Nat × List E) := [(0, s435_0), (24, s435_24), (50, s435_50), (53, s435_53), (75, s435_75), (76, s435_76), (92, s435_92), (98, s435_98)]
theorem l435_0 : lkc cd435 0 = s435_0 := rfl
theorem l435_24 : lkc cd435 24 = s435_24 := rfl
theorem l435_50 : lkc cd435 50 = s435_50 := rfl
theorem l435_53 : lkc cd435 53 = s435_53 := rfl
theorem l435_75 : lkc cd435 75 = s435_75 := rfl
theorem l435_76 : lkc cd435 76 = s435_76 := rfl
theorem l435_92 : lkc cd435 92 = s435_92 := rfl
theorem l435_98 : lkc cd435 98 = s435_98 := rfl
theorem k435 : chkM 435 16 true cd435 = true := by decide +kernel
/- FontHouseModel.isOneOf(I)I -/
def s436_0 : List E := [(.iload_n 0, 0, [0]), (.iconst 1, 1, []), (.if_icmp .ne 7, 0, [9]), (.iconst 0, 0, []), (.goto 32, 0, [38])]
def s436_9 : List E := [(.iload_n 0, 0, [0]), (.iconst 2, 2, []), (.if_icmp .ne 7, 0, [18]), (.iconst 1, 1, []), (.goto 23, 0, [38])]
def s436_18 : List E := [(.iload_n 0, 0, [0]), (.iconst 4, 4, []), (.if_icmp .ne 7, 0, [27]), (.iconst 2, 2, []), (.goto 14, 0, [38])]
def s436_27 : List E := [(.iload_n 0, 0, [0]), (.bipush 8, 8, []), (.if_icmp .ne 7, 0, [37]), (.iconst 3, 3, []), (.goto 4, 0, [38])]
def s436_37 : List E := [(.iconst (-1), -1, []), (.nop, 0, [38])]
def s436_38 : List E := [(.ireturn, 0, [])]
def cd436 : List (Nat × List E) := [(0, s436_0), (9, s436_9), (18, s436_18), (27, s436_27), (37, s436_37), (38, s436_38)]
theorem l436_0 : lkc cd436 0 = s436_0 := rfl
theorem l436_9 : lkc cd436 9 = s436_9 := rfl
theorem l436_18 : lkc cd436 18 = s436_18 := rfl
theorem l436_27 : lkc cd436 27 = s436_27 := rfl
theorem l436_37 : lkc cd436 37 = s436_37 := rfl
theorem l436_38 : lkc cd436 38 = s436_38 := rfl
theorem k436 : chkM 436 16 true cd436 = true := by decide +kernel
/- FontHouseModel.sayEntries()V -/
def s437_0 : List E := [(.iconst 0, 0, []), (.istore_n 1, 0, [1]), (.nop, 0, [2])]
def s437_2 : List E := [(.iload_n 1, 0, [1]), (.aload_n 0, 0, [0]), (.getfield 1081, 0, [16, 128, 0]), (.if_icmp .ge 108, 0, [115]), (.iconst 0, 0, []), (.istore_n 2, 0, [2]), (.nop, 0, [12])]
def s437_12 : List E := [(.iload_n 2, 0, [2]), (.bipush 63, 63, []), (.if_icmp .ge 23, 0, [38]), (.iload_n 2, 0, [2]), (.invokestatic 1138, 0, [438, 35, 0, 5, 0]), (.aload_n 0, 0, [0]), (.getfield 274, 85, [16, 129, 87, 1]), (.iload_n 1, 0, [1]), (.laload, 0, []), (.lcmp, 0, []), (.ifCond .eq 9, 0, [38]), (.iinc 2 1, 1, [2]), (.goto (-23), 0, [12])]
def s437_38 : List E := [(.aload_n 0, 0, [0]), (.bipush 64, 64, []), (.aload_n 0, 0, [0]), (.getfield 277, 86, [16, 130, 81, 1]), (.iload_n 1, 0, [1]), (.iaload, 0, []), (.imul, 0, []), (.iload_n 2, 0, [2]), (.iadd, 0, []), (.iconst 1, 1, []), (.invokevirtual 738, 0, [342, 16, 33, 32, 0, 100, 0, 0]), (.iload_n 2, 0, [2]), (.bipush 63, 63, []), (.if_icmp .ne 13, 0, [70]), (.aload_n 0, 0, [0]), (.aload_n 0, 0, [0]), (.getfield 274, 85, [16, 129, 87, 1]), (.iload_n 1, 0, [1]), (.laload, 0, []), (.invokevirtual 741, 0, [341, 16, 33, 10, 0, 100, 5]), (.nop, 0, [70])]
def s437_70 : List E := [(.aload_n 0, 0, [0]), (.aload_n 0, 0, [0]), (.getfield 280, 87, [16, 131, 87, 1]), (.iload_n 1, 0, [1]), (.laload, 0, []), (.invokevirtual 1142, 0, [439, 16, 33, 8, 0, 100, 5]), (.aload_n 0, 0, [0]), (.aload_n 0, 0, [0]), (.getfield 274, 85, [16, 129, 87, 1]), (.iload_n 1, 0, [1]), (.laload, 0, []), (.aload_n 0, 0, [0]), (.getfield 277, 86, [16, 130, 81, 1]), (.iload_n 1, 0, [1]), (.iaload, 0, []), (.invokevirtual 1145, 0, [440, 16, 33, 32, 0, 3, 0, 5]), (.ifCond .eq 13, 0, [109]), (.aload_n 0, 0, [0]), (.aload_n 0, 0, [0]), (.getfield 283, 88, [16, 132, 87, 1]), (.iload_n 1, 0, [1]), (.laload, 0, []), (.invokevirtual 1142, 0, [439, 16, 33, 8, 0, 100, 5]), (.nop, 0, [109])]
def s437_109 : List E := [(.iinc 1 1, 1, [1]), (.goto (-110), 0, [2])]
def s437_115 : List E := [(.return_, 0, [])]
def cd437 : List (Nat × List E) := [(0, s437_0), (2, s437_2), (12, s437_12), (38, s437_38), (70, s437_70), (109, s437_109), (115, s437_115)]
theorem l437_0 : lkc cd437 0 = s437_0 := rfl
theorem l437_2 : lkc cd437 2 = s437_2 := rfl
theorem l437_12 : lkc cd437 12 = s437_12 := rfl
theorem l437_38 : lkc cd437 38 = s437_38 := rfl
theorem l437_70 : lkc cd437 70 = s437_70 := rfl
theorem l437_109 : lkc cd437 109 = s437_109 := rfl
theorem l437_115 : lkc cd437 115 = s437_115 := rfl
theorem k437 : chkM 437 16 true cd437 = true := by decide +kernel
/- FontHouseModel.tagOf(I)J -/
def s438_0 : List E := [(.iload_n 0, 0, [0]), (.tableswitch 519 0 62 #[267, 271, 275, 279, 283, 287, 291, 295, 299, 303, 307, 311, 315, 319, 323, 327, 331, 335, 339, 343, 347, 351, 355, 359, 363, 367, 371, 375, 379, 383, 387, 391, 395, 399, 403, 407, 411, 415, 419, 423, 427, 431, 435, 439, 443, 447, 451, 455, 459, 463, 467, 471, 475, 479, 483, 487, 491, 495, 499, 503, 507, 511, 515], 0, [520, 268, 272, 276, 280, 284, 288, 292, 296, 300, 304, 308, 312, 316, 320, 324, 328, 332, 336, 340, 344, 348, 352, 356, 360, 364, 368, 372, 376, 380, 384, 388, 392, 396, 400, 404, 408, 412, 416, 420, 424, 428, 432, 436, 440, 444, 448, 452, 456, 460, 464, 468, 472, 476, 480, 484, 488, 492, 496, 500, 504, 508, 512, 516])]
def s438_268 : List E := [(.ldc2_w 951, 1668112752, []), (.lreturn, 0, [])]
def s438_272 : List E := [(.ldc2_w 656, 1751474532, []), (.lreturn, 0, [])]
def s438_276 : List E := [(.ldc2_w 662, 1751672161, []), (.lreturn, 0, [])]
def s438_280 : List E := [(.ldc2_w 668, 1752003704, []), (.lreturn, 0, [])]
def s438_284 : List E := [(.ldc2_w 664, 1835104368, []), (.lreturn, 0, [])]
def s438_288 : List E := [(.ldc2_w 953, 1851878757, []), (.lreturn, 0, [])]
def s438_292 : List E := [(.ldc2_w 955, 1330851634, []), (.lreturn, 0, [])]
def s438_296 : List E := [(.ldc2_w 957, 1886352244, []), (.lreturn, 0, [])]
def s438_300 : List E := [(.ldc2_w 959, 1668707360, []), (.lreturn, 0, [])]
def s438_304 : List E := [(.ldc2_w 961, 1718642541, []), (.lreturn, 0, [])]
def s438_308 : List E := [(.ldc2_w 666, 1735162214, []), (.lreturn, 0, [])]
def s438_312 : List E := [(.ldc2_w 670, 1819239265, []), (.lreturn, 0, [])]
def s438_316 : List E := [(.ldc2_w 963, 1886545264, []), (.lreturn, 0, [])]
def s438_320 : List E := [(.ldc2_w 965, 1128678944, []), (.lreturn, 0, [])]
def s438_324 : List E := [(.ldc2_w 967, 1448038983, []), (.lreturn, 0, [])]
def s438_328 : List E := [(.ldc2_w 969, 1161970772, []), (.lreturn, 0, [])]
def s438_332 : List E := [(.ldc2_w 971, 1161972803, []), (.lreturn, 0, [])]
def s438_336 : List E := [(.ldc2_w 973, 1734439792, []), (.lreturn, 0, [])]
def s438_340 : List E := [(.ldc2_w 975, 1751412088, []), (.lreturn, 0, [])]
def s438_344 : List E := [(.ldc2_w 977, 1801810542, []), (.lreturn, 0, [])]
def s438_348 : List E := [(.ldc2_w 979, 1280594760, []), (.lreturn, 0, [])]
def s438_352 : List E := [(.ldc2_w 981, 1346587732, []), (.lreturn, 0, [])]
def s438_356 : List E := [(.ldc2_w 983, 1447316824, []), (.lreturn, 0, [])]
def s438_360 : List E := [(.ldc2_w 985, 1986553185, []), (.lreturn, 0, [])]
def s438_364 : List E := [(.ldc2_w 987, 1986884728, []), (.lreturn, 0, [])]
def s438_368 : List E := [(.ldc2_w 989, 1111577413, []), (.lreturn, 0, [])]
def s438_372 : List E := [(.ldc2_w 991, 1195656518, []), (.lreturn, 0, [])]
def s438_376 : List E := [(.ldc2_w 993, 1196445523, []), (.lreturn, 0, [])]
def s438_380 : List E := [(.ldc2_w 995, 1196643650, []), (.lreturn, 0, [])]
def s438_384 : List E := [(.ldc2_w 997, 1161974595, []), (.lreturn, 0, [])]
def s438_388 : List E := [(.ldc2_w 999, 1246975046, []), (.lreturn, 0, [])]
def s438_392 : List E := [(.ldc2_w 1001, 1296127048, []), (.lreturn, 0, [])]
def s438_396 : List E := [(.ldc2_w 1003, 1128416340, []), (.lreturn, 0, [])]
def s438_400 : List E := [(.ldc2_w 1005, 1128418371, []), (.lreturn, 0, [])]
def s438_404 : List E := [(.ldc2_w 1007, 1129270354, []), (.lreturn, 0, [])]
def s438_408 : List E := [(.ldc2_w 1009, 1129333068, []), (.lreturn, 0, [])]
def s438_412 : List E := [(.ldc2_w 1011, 1398163232, []), (.lreturn, 0, [])]
def s438_416 : List E := [(.ldc2_w 1013, 1935829368, []), (.lreturn, 0, [])]
def s438_420 : List E := [(.ldc2_w 1015, 1633906292, []), (.lreturn, 0, [])]
def s438_424 : List E := [(.ldc2_w 1017, 1635148146, []), (.lreturn, 0, [])]
def s438_428 : List E := [(.ldc2_w 1019, 1650745716, []), (.lreturn, 0, [])]
def s438_432 : List E := [(.ldc2_w 1021, 1651273571, []), (.lreturn, 0, [])]
def s438_436 : List E := [(.ldc2_w 1023, 1651731566, []), (.lreturn, 0, [])]
def s438_440 : List E := [(.ldc2_w 1025, 1668702578, []), (.lreturn, 0, [])]
def s438_444 : List E := [(.ldc2_w 1027, 1717859171, []), (.lreturn, 0, [])]
def s438_448 : List E := [(.ldc2_w 1029, 1717920116, []), (.lreturn, 0, [])]
def s438_452 : List E := [(.ldc2_w 1031, 1718449272, []), (.lreturn, 0, [])]
def s438_456 : List E := [(.ldc2_w 1033, 1719034226, []), (.lreturn, 0, [])]
def s438_460 : List E := [(.ldc2_w 1035, 1735811442, []), (.lreturn, 0, [])]
def s438_464 : List E := [(.ldc2_w 1037, 1752396921, []), (.lreturn, 0, [])]
def s438_468 : List E := [(.ldc2_w 1039, 1786082164, []), (.lreturn, 0, [])]
def s438_472 : List E := [(.ldc2_w 1041, 1818452338, []), (.lreturn, 0, [])]
def s438_476 : List E := [(.ldc2_w 1043, 1836020340, []), (.lreturn, 0, [])]
def s438_480 : List E := [(.ldc2_w 1045, 1836020344, []), (.lreturn, 0, [])]
def s438_484 : List E := [(.ldc2_w 1047, 1869636196, []), (.lreturn, 0, [])]
def s438_488 : List E := [(.ldc2_w 1049, 1886547824, []), (.lreturn, 0, [])]
def s438_492 : List E := [(.ldc2_w 1051, 1953653099, []), (.lreturn, 0, [])]
def s438_496 : List E := [(.ldc2_w 1053, 1516335206, []), (.lreturn, 0, [])]
def s438_500 : List E := [(.ldc2_w 1055, 1399417958, []), (.lreturn, 0, [])]
def s438_504 : List E := [(.ldc2_w 1057, 1198285172, []), (.lreturn, 0, [])]
def s438_508 : List E := [(.ldc2_w 1059, 1198288739, []), (.lreturn, 0, [])]
def s438_512 : List E := [(.ldc2_w 1061, 1181049204, []), (.lreturn, 0, [])]
def s438_516 : List E := [(.ldc2_w 1063, 1399417964, []), (.lreturn, 0, [])]
def s438_520 : List E := [(.ldc2_w 339, -1, []), (.lreturn, 0, [])]
def cd438 : List (Nat × List E) := [(0, s438_0), (268, s438_268), (272, s438_272), (276, s438_276), (280, s438_280), (284, s438_284), (288, s438_288), (292, s438_292), (296, s438_296), (300, s438_300), (304, s438_304), (308, s438_308), (312, s438_312), (316, s438_316), (320, s438_320), (324, s438_324), (328, s438_328), (332, s438_332), (336, s438_336), (340, s438_340), (344, s438_344), (348, s438_348), (352, s438_352), (356, s438_356), (360, s438_360), (364, s438_364), (368, s438_368), (372, s438_372), (376, s438_376), (380, s438_380), (384, s438_384), (388, s438_388), (392, s438_392), (396, s438_396), (400, s438_400), (404, s438_404), (408, s438_408), (412, s438_412), (416, s438_416), (420, s438_420), (424, s438_424), (428, s438_428), (432, s438_432), (436, s438_436), (440, s438_440), (444, s438_444), (448, s438_448), (452, s438_452), (456, s438_456), (460, s438_460), (464, s438_464), (468, s438_468), (472, s438_472), (476, s438_476), (480, s438_480), (484, s438_484), (488, s438_488), (492, s438_492), (496, s438_496), (500, s438_500), (504, s438_504), (508, s438_508), (512, s438_512), (516, s438_516), (520, s438_520)]
theorem l438_0 : lkc cd438 0 = s438_0 := rfl
theorem l438_268 : lkc cd438 268 = s438_268 := rfl
theorem l438_272 : lkc cd438 272 = s438_272 := rfl
theorem l438_276 : lkc cd438 276 = s438_276 := rfl
theorem l438_280 : lkc cd438 280 = s438_280 := rfl
theorem l438_284 : lkc cd438 284 = s438_284 := rfl
theorem l438_288 : lkc cd438 288 = s438_288 := rfl
theorem l438_292 : lkc cd438 292 = s438_292 := rfl
theorem l438_296 : lkc cd438 296 = s438_296 := rfl
theorem l438_300 : lkc cd438 300 = s438_300 := rfl
theorem l438_304 : lkc cd438 304 = s438_304 := rfl
theorem l438_308 : lkc cd438 308 = s438_308 := rfl
theorem l438_312 : lkc cd438 312 = s438_312 := rfl
theorem l438_316 : lkc cd438 316 = s438_316 := rfl
theorem l438_320 : lkc cd438 320 = s438_320 := rfl
theorem l438_324 : lkc cd438 324 = s438_324 := rfl
theorem l438_328 : lkc cd438 328 = s438_328 := rfl
theorem l438_332 : lkc cd438 332 = s438_332 := rfl
theorem l438_336 : lkc cd438 336 = s438_336 := rfl
theorem l438_340 : lkc cd438 340 = s438_340 := rfl
theorem l438_344 : lkc cd438 344 = s438_344 := rfl
theorem l438_348 : lkc cd438 348 = s438_348 := rfl
theorem l438_352 : lkc cd438 352 = s438_352 := rfl
theorem l438_356 : lkc cd438 356 = s438_356 := rfl
theorem l438_360 : lkc cd438 360 = s438_360 := rfl
theorem l438_364 : lkc cd438 364 = s438_364 := rfl
theorem l438_368 : lkc cd438 368 = s438_368 := rfl
theorem l438_372 : lkc cd438 372 = s438_372 := rfl
theorem l438_376 : lkc cd438 376 = s438_376 := rfl
theorem l438_380 : lkc cd438 380 = s438_380 := rfl
theorem l438_384 : lkc cd438 384 = s438_384 := rfl
theorem l438_388 : lkc cd438 388 = s438_388 := rfl
theorem l438_392 : lkc cd438 392 = s438_392 := rfl
theorem l438_396 : lkc cd438 396 = s438_396 := rfl
theorem l438_400 : lkc cd438 400 = s438_400 := rfl
theorem l438_404 : lkc cd438 404 = s438_404 := rfl
theorem l438_408 : lkc cd438 408 = s438_408 := rfl
theorem l438_412 : lkc cd438 412 = s438_412 := rfl
theorem l438_416 : lkc cd438 416 = s438_416 := rfl
theorem l438_420 : lkc cd438 420 = s438_420 := rfl
theorem l438_424 : lkc cd438 424 = s438_424 := rfl
theorem l438_428 : lkc cd438 428 = s438_428 := rfl
theorem l438_432 : lkc cd438 432 = s438_432 := rfl
theorem l438_436 : lkc cd438 436 = s438_436 := rfl
theorem l438_440 : lkc cd438 440 = s438_440 := rfl
theorem l438_444 : lkc cd438 444 = s438_444 := rfl
theorem l438_448 : lkc cd438 448 = s438_448 := rfl
theorem l438_452 : lkc cd438 452 = s438_452 := rfl
theorem l438_456 : lkc cd438 456 = s438_456 := rfl
theorem l438_460 : lkc cd438 460 = s438_460 := rfl
theorem l438_464 : lkc cd438 464 = s438_464 := rfl
theorem l438_468 : lkc cd438 468 = s438_468 := rfl
theorem l438_472 : lkc cd438 472 = s438_472 := rfl
theorem l438_476 : lkc cd438 476 = s438_476 := rfl
theorem l438_480 : lkc cd438 480 = s438_480 := rfl
theorem l438_484 : lkc cd438 484 = s438_484 := rfl
theorem l438_488 : lkc cd438 488 = s438_488 := rfl
theorem l438_492 : lkc cd438 492 = s438_492 := rfl
theorem l438_496 : lkc cd438 496 = s438_496 := rfl
theorem l438_500 : lkc cd438 500 = s438_500 := rfl
theorem l438_504 : lkc cd438 504 = s438_504 := rfl
theorem l438_508 : lkc cd438 508 = s438_508 := rfl
theorem l438_512 : lkc cd438 512 = s438_512 := rfl
theorem l438_516 : lkc cd438 516 = s438_516 := rfl
theorem l438_520 : lkc cd438 520 = s438_520 := rfl
theorem k438 : chkM 438 16 true cd438 = true := by decide +kernel
/- FontHouseModel.sayBig(J)V -/
def s439_0 : List E := [(.iconst 1, 1, []), (.istore_n 3, 0, [3]), (.nop, 0, [2])]
def s439_2 : List E := [(.iload_n 3, 0, [3]), (.iconst 5, 5, []), (.if_icmp .ge 20, 0, [24]), (.lload_n 1, 0, [1]), (.bipush 7, 7, []), (.iload_n 3, 0, [3]), (.imul, 0, []), (.lshr, 0, []), (.lconst 0, 0, []), (.lcmp, 0, []), (.ifCond .le 9, 0, [24]), (.iinc 3 1, 1, [3]), (.goto (-19), 0, [2])]
def s439_24 : List E := [(.iload_n 3, 0, [3]), (.iconst 1, 1, []), (.isub, 0, []), (.istore 4, 0, [4]), (.nop, 0, [29])]
def s439_29 : List E := [(.iload 4, 0, [4]), (.ifCond .lt 39, 0, [70]), (.aload_n 0, 0, [0]), (.lload_n 1, 0, [1]), (.bipush 7, 7, []), (.iload 4, 0, [4]), (.imul, 0, []), (.lshr, 0, []), (.ldc2_w 1136, 127, []), (.land, 0, []), (.l2i, 0, []), (.iload 4, 0, [4]), (.ifCond .le 9, 0, [58]), (.sipush 128, 128, []), (.goto 4, 0, [59])]
def s439_58 : List E := [(.iconst 0, 0, []), (.nop, 0, [59])]
def s439_59 : List E := [(.iadd, 0, []), (.iconst 1, 1, []), (.invokevirtual 738, 0, [342, 16, 33, 8, 0, 100, 0, 0]), (.iinc 4 (-1), -1, [4]), (.goto (-38), 0, [29])]
def s439_70 : List E := [(.return_, 0, [])]
def cd439 : List (Nat × List E) := [(0, s439_0), (2, s439_2), (24, s439_24), (29, s439_29), (58, s439_58), (59, s439_59), (70, s439_70)]
theorem l439_0 : lkc cd439 0 = s439_0 := rfl
theorem l439_2 : lkc cd439 2 = s439_2 := rfl
theorem l439_24 : lkc cd439 24 = s439_24 := rfl
theorem l439_29 : lkc cd439 29 = s439_29 := rfl
theorem l439_58 : lkc cd439 58 = s439_58 := rfl
theorem l439_59 : lkc cd439 59 = s439_59 := rfl
theorem l439_70 : lkc cd439 70 = s439_70 := rfl
theorem k439 : chkM 439 16 true cd439 = true := by decide +kernel
/- FontHouseModel.isTurned(JI)Z -/
def s440_0 : List E := [(.iload_n 3, 0, [3]), (.ifCond .ne 19, 0, [20]), (.lload_n 1, 0, [1]), (.ldc2_w 666, 1735162214, []), (.lcmp, 0, []), (.ifCond .eq 24, 0, [33]), (.lload_n 1, 0, [1]), (.ldc2_w 670, 1819239265, []), (.lcmp, 0, []), (.ifCond .eq 16, 0, [33]), (.nop, 0, [20])]
def s440_20 : List E := [(.iload_n 3, 0, [3]), (.iconst 1, 1, []), (.if_icmp .ne 15, 0, [37]), (.lload_n 1, 0, [1]), (.ldc2_w 668, 1752003704, []), (.lcmp, 0, []), (.ifCond .ne 7, 0, [37]), (.nop, 0, [33])]
def s440_33 : List E := [(.iconst 1, 1, []), (.goto 4, 0, [38])]
def s440_37 : List E := [(.iconst 0, 0, []), (.nop, 0, [38])]
def s440_38 : List E := [(.ireturn, 0, [1])]
def cd440 : List (Nat × List E) := [(0, s440_0), (20, s440_20), (33, s440_33), (37, s440_37), (38, s440_38)]
theorem l440_0 : lkc cd440 0 = s440_0 := rfl
theorem l440_20 : lkc cd440 20 = s440_20 := rfl
theorem l440_33 : lkc cd440 33 = s440_33 := rfl
theorem l440_37 : lkc cd440 37 = s440_37 := rfl
theorem l440_38 : lkc cd440 38 = s440_38 := rfl
theorem k440 : chkM 440 16 true cd440 = true := by decide +kernel
/- FontHouseModel.sayShort(I)V -/
def s441_0 : List E := [(.iload_n 1, 0, [1]), (.sipush 253, 253, []), (.if_icmp .ge 12, 0, [16]), (.aload_n 0, 0, [0]), (.iload_n 1, 0, [1]), (.iconst 1, 1, []), (.invokevirtual 738, 0, [342, 16, 33, 8, 0, 100, 0, 0]), (.goto 21, 0, [34])]
def s441_16 : List E := [(.aload_n 0, 0, [0]), (.sipush 255, 255, []), (.iconst 1, 1, []), (.invokevirtual 738, 0, [342, 16, 33, 8, 0, 100, 0, 0]), (.aload_n 0, 0, [0]), (.iload_n 1, 0, [1]), (.sipush 253, 253, []), (.isub, 0, []), (.iconst 1, 1, []), (.invokevirtual 738, 0, [342, 16, 33, 8, 0, 100, 0, 0]), (.nop, 0, [34])]
def s441_34 : List E := [(.return_, 0, [])]
def cd441 : List (Nat × List E) := [(0, s441_0), (16, s441_16), (34, s441_34)]
theorem l441_0 : lkc cd441 0 = s441_0 := rfl
theorem l441_16 : lkc cd441 16 = s441_16 := rfl
theorem l441_34 : lkc cd441 34 = s441_34 := rfl
theorem k441 : chkM 441 16 true cd441 = true := by decide +kernel
/- FontHouseModel.note(IJJJ)V -/
def s442_0 : List E := [(.aload_n 0, 0, [0]), (.aload_n 0, 0, [0]), (.getfield 1081, 0, [16, 128, 0]), (.putfield 1065, 0, [16, 117, 0]), (.aload_n 0, 0, [0]), (.iload_n 1, 0, [1]), (.putfield 1068, 0, [16, 118, 0]), (.aload_n 0, 0, [0]), (.lload_n 2, 0, [2]), (.putfield 1071, 0, [16, 119, 5]), (.aload_n 0, 0, [0]), (.lload 4, 0, [4]), (.putfield 1075, 0, [16, 120, 5]), (.aload_n 0, 0, [0]), (.lload 6, 0, [6]), (.putfield 1078, 0, [16, 121, 5]), (.iconst 0, 0, []), (.istore 8, 0, [8]), (.nop, 0, [33])]
def s442_33 : List E := [(.iload 8, 0, [8]), (.aload_n 0, 0, [0]), (.getfield 1081, 0, [16, 128, 0]), (.if_icmp .ge 65, 0, [104]), (.aload_n 0, 0, [0]), (.getfield 256, 79, [16, 122, 87, 1]), (.iload 8, 0, [8]), (.aload_n 0, 0, [0]), (.getfield 274, 85, [16, 129, 87, 1]), (.iload 8, 0, [8]), (.laload, 0, []), (.lastore, 0, []), (.aload_n 0, 0, [0]), (.getfield 259, 80, [16, 123, 81, 1]), (.iload 8, 0, [8]), (.aload_n 0, 0, [0]), (.getfield 277, 86, [16, 130, 81, 1]), (.iload 8, 0, [8]), (.iaload, 0, []), (.iastore, 0, []), (.aload_n 0, 0, [0]), (.getfield 262, 81, [16, 124, 87, 1]), (.iload 8, 0, [8]), (.aload_n 0, 0, [0]), (.getfield 280, 87, [16, 131, 87, 1]), (.iload 8, 0, [8]), (.laload, 0, []), (.lastore, 0, []), (.aload_n 0, 0, [0]), (.getfield 265, 82, [16, 125, 87, 1]), (.iload 8, 0, [8]), (.aload_n 0, 0, [0]), (.getfield 283, 88, [16, 132, 87, 1]), (.iload 8, 0, [8]), (.laload, 0, []), (.lastore, 0, []), (.iinc 8 1, 1, [8]), (.goto (-68), 0, [33])]
def s442_104 : List E := [(.return_, 0, [])]
def cd442 : List (Nat × List E) := [(0, s442_0), (33, s442_33), (104, s442_104)]
theorem l442_0 : lkc cd442 0 = s442_0 := rfl
theorem l442_33 : lkc cd442 33 = s442_33 := rfl
theorem l442_104 : lkc cd442 104 = s442_104 := rfl
theorem k442 : chkM 442 16 true cd442 = true := by decide +kernel
/- FontHouseModel.unwrap(I)I -/
def s443_0 : List E := [(.iload_n 1, 0, [1]), (.invokestatic 329, 0, [229, 261, 0, 3, 0]), (.ifCond .ne 5, 0, [9]), (.iconst (-1), -1, []), (.ireturn, 0, [])]
def s443_9 : List E := [(.aload_n 0, 0, [0]), (.getfield 18, 0, [16, 3, 0]), (.istore_n 2, 0, [2]), (.aload_n 0, 0, [0]), (.iconst 0, 0, []), (.putfield 343, 0, [16, 2, 0]), (.aload_n 0, 0, [0]), (.iconst (-1), -1, []), (.putfield 18, 0, [16, 3, 0]), (.aload_n 0, 0, [0]), (.iload_n 1, 0, [1]), (.putfield 1173, 0, [16, 139, 0]), (.aload_n 0, 0, [0]), (.invokevirtual 1259, 0, [444, 16, 33, 214, 0, 100]), (.aload_n 0, 0, [0]), (.getfield 343, 0, [16, 2, 0]), (.ifCond .ne 7, 0, [44]), (.aload_n 0, 0, [0]), (.invokevirtual 1262, 0, [446, 16, 33, 165, 0, 100]), (.nop, 0, [44])]
def s443_44 : List E := [(.aload_n 0, 0, [0]), (.getfield 343, 0, [16, 2, 0]), (.ifCond .ne 27, 0, [75]), (.aload_n 0, 0, [0]), (.iload_n 1, 0, [1]), (.iconst 4, 4, []), (.invokevirtual 680, 0, [327, 16, 33, 237, 0, 5, 0, 0]), (.ldc2_w 698, 1953784678, []), (.lcmp, 0, []), (.ifCond .ne 10, 0, [71]), (.aload_n 0, 0, [0]), (.invokevirtual 1265, 0, [450, 16, 33, 147, 0, 100]), (.goto 7, 0, [75])]
def s443_71 : List E := [(.aload_n 0, 0, [0]), (.invokevirtual 1268, 0, [453, 16, 33, 214, 0, 100]), (.nop, 0, [75])]
def s443_75 : List E := [(.aload_n 0, 0, [0]), (.getfield 343, 0, [16, 2, 0]), (.ifCond .ne 7, 0, [86]), (.aload_n 0, 0, [0]), (.invokevirtual 1271, 0, [454, 16, 33, 13, 0, 100]), (.nop, 0, [86])]
def s443_86 : List E := [(.aload_n 0, 0, [0]), (.getfield 343, 0, [16, 2, 0]), (.ifCond .le 11, 0, [101]), (.bipush (-10), -10, []), (.aload_n 0, 0, [0]), (.getfield 343, 0, [16, 2, 0]), (.isub, 0, []), (.ireturn, 0, [])]
def s443_101 : List E := [(.aload_n 0, 0, [0]), (.invokevirtual 643, 0, [313, 16, 33, 237, 0, 100]), (.aload_n 0, 0, [0]), (.invokevirtual 1274, 0, [455, 16, 33, 8, 0, 100]), (.aload_n 0, 0, [0]), (.getfield 343, 0, [16, 2, 0]), (.ifCond .le 15, 0, [128]), (.aload_n 0, 0, [0]), (.invokevirtual 633, 0, [322, 16, 33, 237, 0, 100]), (.bipush (-10), -10, []), (.aload_n 0, 0, [0]), (.getfield 343, 0, [16, 2, 0]), (.isub, 0, []), (.ireturn, 0, [])]
def s443_128 : List E := [(.iconst 0, 0, []), (.istore_n 3, 0, [3]), (.nop, 0, [130])]
def s443_130 : List E := [(.iload_n 3, 0, [3]), (.aload_n 0, 0, [0]), (.getfield 1192, 0, [16, 141, 0]), (.if_icmp .ge 22, 0, [157]), (.aload_n 0, 0, [0]), (.getfield 135, 39, [16, 54, 81, 1]), (.iload_n 3, 0, [3]), (.aload_n 0, 0, [0]), (.getfield 308, 96, [16, 143, 87, 1]), (.iload_n 3, 0, [3]), (.laload, 0, []), (.l2i, 0, []), (.iastore, 0, []), (.iinc 3 1, 1, [3]), (.goto (-24), 0, [130])]
def s443_157 : List E := [(.aload_n 0, 0, [0]), (.invokevirtual 672, 0, [321, 16, 33, 217, 0, 3]), (.ifCond .ne 11, 0, [172]), (.aload_n 0, 0, [0]), (.iload_n 2, 0, [2]), (.putfield 18, 0, [16, 3, 0]), (.bipush (-4), -4, []), (.ireturn, 0, [])]
def s443_172 : List E := [(.aload_n 0, 0, [0]), (.aload_n 0, 0, [0]), (.getfield 1192, 0, [16, 141, 0]), (.aload_n 0, 0, [0]), (.getfield 424, 0, [16, 8, 0]), (.i2l, 0, []), (.aload_n 0, 0, [0]), (.iload_n 1, 0, [1]), (.bipush 20, 20, []), (.invokevirtual 680, 0, [327, 16, 33, 237, 0, 5, 0, 0]), (.aload_n 0, 0, [0]), (.iload_n 1, 0, [1]), (.bipush 16, 16, []), (.invokevirtual 680, 0, [327, 16, 33, 237, 0, 5, 0, 0]), (.invokevirtual 1169, 0, [442, 16, 33, 253, 0, 100, 5, 5, 5, 0]), (.aload_n 0, 0, [0]), (.getfield 1192, 0, [16, 141, 0]), (.ireturn, 0, [])]
def cd443 : List (Nat × List E) := [(0, s443_0), (9, s443_9), (44, s443_44), (71, s443_71), (75, s443_75), (86, s443_86), (101, s443_101), (128, s443_128), (130, s443_130), (157, s443_157), (172, s443_172)]
theorem l443_0 : lkc cd443 0 = s443_0 := rfl
theorem l443_9 : lkc cd443 9 = s443_9 := rfl
theorem l443_44 : lkc cd443 44 = s443_44 := rfl
theorem l443_71 : lkc cd443 71 = s443_71 := rfl
theorem l443_75 : lkc cd443 75 = s443_75 := rfl
theorem l443_86 : lkc cd443 86 = s443_86 := rfl
theorem l443_101 : lkc cd443 101 = s443_101 := rfl
theorem l443_128 : lkc cd443 128 = s443_128 := rfl
theorem l443_130 : lkc cd443 130 = s443_130 := rfl
theorem l443_157 : lkc cd443 157 = s443_157 := rfl
theorem l443_172 : lkc cd443 172 = s443_172 := rfl
theorem k443 : chkM 443 16 true cd443 = true := by decide +kernel
/- FontHouseModel.uHead()V -/
def s444_0 : List E := [(.aload_n 0, 0, [0]), (.iconst 0, 0, []), (.putfield 1176, 0, [16, 140, 0]), (.aload_n 0, 0, [0]), (.bipush 48, 48, []), (.invokevirtual 1179, 0, [445, 16, 33, 9, 0, 3, 0]), (.ifCond .ne 4, 0, [15]), (.return_, 0, [])]
def s444_15 : List E := [(.aload_n 0, 0, [0]), (.aload_n 0, 0, [0]), (.getfield 1173, 0, [16, 139, 0]), (.iconst 4, 4, []), (.invokevirtual 680, 0, [327, 16, 33, 8, 0, 5, 0, 0]), (.lstore_n 1, 0, [1]), (.aload_n 0, 0, [0]), (.aload_n 0, 0, [0]), (.getfield 1173, 0, [16, 139, 0]), (.iconst 0, 0, []), (.invokevirtual 680, 0, [327, 16, 33, 8, 0, 5, 0, 0]), (.ldc2_w 1161, 2001684018, []), (.lcmp, 0, []), (.ifCond .eq 14, 0, [52]), (.aload_n 0, 0, [0]), (.bipush 42, 42, []), (.iconst 0, 0, []), (.invokevirtual 357, 0, [243, 16, 33, 30, 0, 3, 0, 0]), (.pop, 0, []), (.goto 129, 0, [178])]
def s444_52 : List E := [(.aload_n 0, 0, [0]), (.lload_n 1, 0, [1]), (.invokevirtual 684, 0, [328, 16, 33, 30, 0, 3, 5]), (.ifCond .ne 22, 0, [79]), (.lload_n 1, 0, [1]), (.ldc2_w 698, 1953784678, []), (.lcmp, 0, []), (.ifCond .eq 14, 0, [79]), (.aload_n 0, 0, [0]), (.bipush 43, 43, []), (.iconst 4, 4, []), (.invokevirtual 357, 0, [243, 16, 33, 30, 0, 3, 0, 0]), (.pop, 0, []), (.goto 102, 0, [178])]
def s444_79 : List E := [(.aload_n 0, 0, [0]), (.aload_n 0, 0, [0]), (.getfield 1173, 0, [16, 139, 0]), (.bipush 8, 8, []), (.invokevirtual 680, 0, [327, 16, 33, 8, 0, 5, 0, 0]), (.aload_n 0, 0, [0]), (.getfield 14, 2, [16, 1, 81, 1]), (.aload_n 0, 0, [0]), (.getfield 1173, 0, [16, 139, 0]), (.iaload, 0, []), (.i2l, 0, []), (.lcmp, 0, []), (.ifCond .eq 15, 0, [115]), (.aload_n 0, 0, [0]), (.bipush 44, 44, []), (.bipush 8, 8, []), (.invokevirtual 357, 0, [243, 16, 33, 30, 0, 3, 0, 0]), (.pop, 0, []), (.goto 66, 0, [178])]
def s444_115 : List E := [(.aload_n 0, 0, [0]), (.aload_n 0, 0, [0]), (.getfield 1173, 0, [16, 139, 0]), (.bipush 12, 12, []), (.invokevirtual 688, 0, [329, 16, 33, 8, 0, 0, 0, 0]), (.iconst 1, 1, []), (.if_icmp .lt 18, 0, [144]), (.aload_n 0, 0, [0]), (.aload_n 0, 0, [0]), (.getfield 1173, 0, [16, 139, 0]), (.bipush 12, 12, []), (.invokevirtual 688, 0, [329, 16, 33, 8, 0, 0, 0, 0]), (.bipush 40, 40, []), (.if_icmp .le 15, 0, [156]), (.nop, 0, [144])]
def s444_144 : List E := [(.aload_n 0, 0, [0]), (.bipush 45, 45, []), (.bipush 12, 12, []), (.invokevirtual 357, 0, [243, 16, 33, 30, 0, 3, 0, 0]), (.pop, 0, []), (.goto 25, 0, [178])]
def s444_156 : List E := [(.aload_n 0, 0, [0]), (.aload_n 0, 0, [0]), (.getfield 1173, 0, [16, 139, 0]), (.bipush 14, 14, []), (.invokevirtual 688, 0, [329, 16, 33, 8, 0, 0, 0, 0]), (.ifCond .eq 12, 0, [178]), (.aload_n 0, 0, [0]), (.bipush 45, 45, []), (.bipush 14, 14, []), (.invokevirtual 357, 0, [243, 16, 33, 30, 0, 3, 0, 0]), (.pop, 0, []), (.nop, 0, [178])]
def s444_178 : List E := [(.iconst 0, 0, []), (.istore_n 3, 0, [3]), (.nop, 0, [180])]
def s444_180 : List E := [(.iload_n 3, 0, [3]), (.iconst 5, 5, []), (.if_icmp .ge 48, 0, [230]), (.aload_n 0, 0, [0]), (.getfield 343, 0, [16, 2, 0]), (.ifCond .ne 41, 0, [230]), (.aload_n 0, 0, [0]), (.aload_n 0, 0, [0]), (.getfield 1173, 0, [16, 139, 0]), (.bipush 28, 28, []), (.iconst 4, 4, []), (.iload_n 3, 0, [3]), (.imul, 0, []), (.iadd, 0, []), (.invokevirtual 680, 0, [327, 16, 33, 8, 0, 5, 0, 0]), (.lconst 0, 0, []), (.lcmp, 0, []), (.ifCond .eq 16, 0, [224]), (.aload_n 0, 0, [0]), (.bipush 46, 46, []), (.bipush 28, 28, []), (.iconst 4, 4, []), (.iload_n 3, 0, [3]), (.imul, 0, []), (.iadd, 0, []), (.invokevirtual 357, 0, [243, 16, 33, 30, 0, 3, 0, 0]), (.pop, 0, []), (.nop, 0, [224])]
def s444_224 : List E := [(.iinc 3 1, 1, [3]), (.goto (-47), 0, [180])]
def s444_230 : List E := [(.aload_n 0, 0, [0]), (.aload_n 0, 0, [0]), (.aload_n 0, 0, [0]), (.getfield 1173, 0, [16, 139, 0]), (.bipush 12, 12, []), (.invokevirtual 688, 0, [329, 16, 33, 8, 0, 0, 0, 0]), (.putfield 1081, 0, [16, 128, 0]), (.aload_n 0, 0, [0]), (.bipush 48, 48, []), (.putfield 1176, 0, [16, 140, 0]), (.return_, 0, [])]
def cd444 : List (Nat × List E) := [(0, s444_0), (15, s444_15), (52, s444_52), (79, s444_79), (115, s444_115), (144, s444_144), (156, s444_156), (178, s444_178), (180, s444_180), (224, s444_224), (230, s444_230)]
theorem l444_0 : lkc cd444 0 = s444_0 := rfl
theorem l444_15 : lkc cd444 15 = s444_15 := rfl
theorem l444_52 : lkc cd444 52 = s444_52 := rfl
theorem l444_79 : lkc cd444 79 = s444_79 := rfl
theorem l444_115 : lkc cd444 115 = s444_115 := rfl
theorem l444_144 : lkc cd444 144 = s444_144 := rfl
theorem l444_156 : lkc cd444 156 = s444_156 := rfl
theorem l444_178 : lkc cd444 178 = s444_178 := rfl
theorem l444_180 : lkc cd444 180 = s444_180 := rfl
theorem l444_224 : lkc cd444 224 = s444_224 := rfl
theorem l444_230 : lkc cd444 230 = s444_230 := rfl
theorem k444 : chkM 444 16 true cd444 = true := by decide +kernel
/- FontHouseModel.uHas(I)Z -/
def s445_0 : List E := [(.aload_n 0, 0, [0]), (.getfield 14, 2, [16, 1, 81, 1]), (.aload_n 0, 0, [0]), (.getfield 1173, 0, [16, 139, 0]), (.iaload, 0, []), (.aload_n 0, 0, [0]), (.getfield 1176, 0, [16, 140, 0]), (.isub, 0, []), (.iload_n 1, 0, [1]), (.if_icmp .ge 21, 0, [36]), (.aload_n 0, 0, [0]), (.bipush 41, 41, []), (.aload_n 0, 0, [0]), (.getfield 14, 2, [16, 1, 81, 1]), (.aload_n 0, 0, [0]), (.getfield 1173, 0, [16, 139, 0]), (.iaload, 0, []), (.invokevirtual 357, 0, [243, 16, 33, 8, 0, 3, 0, 0]), (.ifCond .ne 7, 0, [40]), (.nop, 0, [36])]
def s445_36 : List E := [(.iconst 1, 1, []), (.goto 4, 0, [41])]
def s445_40 : List E := [(.iconst 0, 0, []), (.nop, 0, [41])]
def s445_41 : List E := [(.ireturn, 0, [1])]
def cd445 : List (Nat × List E) := [(0, s445_0), (36, s445_36), (40, s445_40), (41, s445_41)]
theorem l445_0 : lkc cd445 0 = s445_0 := rfl
theorem l445_36 : lkc cd445 36 = s445_36 := rfl
theorem l445_40 : lkc cd445 40 = s445_40 := rfl
theorem l445_41 : lkc cd445 41 = s445_41 := rfl
theorem k445 : chkM 445 16 true cd445 = true := by decide +kernel
/- FontHouseModel.uEntries()V -/
def s446_0 : List E := [(.iconst 0, 0, []), (.istore_n 1, 0, [1]), (.nop, 0, [2])]
def s446_2 : List E := [(.iload_n 1, 0, [1]), (.aload_n 0, 0, [0]), (.getfield 1081, 0, [16, 128, 0]), (.if_icmp .ge 397, 0, [404]), (.aload_n 0, 0, [0]), (.getfield 343, 0, [16, 2, 0]), (.ifCond .ne 390, 0, [404]), (.aload_n 0, 0, [0]), (.getfield 1176, 0, [16, 140, 0]), (.istore_n 2, 0, [2]), (.aload_n 0, 0, [0]), (.invokevirtual 1182, 0, [447, 16, 33, 33, 0, 0]), (.istore_n 3, 0, [3]), (.iload_n 3, 0, [3]), (.bipush 63, 63, []), (.iand, 0, []), (.istore 4, 0, [4]), (.aload_n 0, 0, [0]), (.getfield 274, 85, [16, 129, 87, 1]), (.iload_n 1, 0, [1]), (.iload 4, 0, [4]), (.bipush 63, 63, []), (.if_icmp .ne 10, 0, [52]), (.aload_n 0, 0, [0]), (.invokevirtual 1185, 0, [448, 16, 33, 32, 0, 5]), (.goto 8, 0, [57])]
def s446_52 : List E := [(.iload 4, 0, [4]), (.invokestatic 1138, 0, [438, 76, 0, 5, 0]), (.nop, 0, [57])]
def s446_57 : List E := [(.lastore, 0, []), (.aload_n 0, 0, [0]), (.getfield 277, 86, [16, 130, 81, 1]), (.iload_n 1, 0, [1]), (.iload_n 3, 0, [3]), (.bipush 6, 6, []), (.ishr, 0, []), (.iastore, 0, []), (.aload_n 0, 0, [0]), (.getfield 343, 0, [16, 2, 0]), (.ifCond .le 4, 0, [76]), (.return_, 0, [])]
def s446_76 : List E := [(.aload_n 0, 0, [0]), (.getfield 274, 85, [16, 129, 87, 1]), (.iload_n 1, 0, [1]), (.laload, 0, []), (.ldc2_w 666, 1735162214, []), (.lcmp, 0, []), (.ifCond .eq 16, 0, [102]), (.aload_n 0, 0, [0]), (.getfield 274, 85, [16, 129, 87, 1]), (.iload_n 1, 0, [1]), (.laload, 0, []), (.ldc2_w 670, 1819239265, []), (.lcmp, 0, []), (.ifCond .ne 7, 0, [106]), (.nop, 0, [102])]
def s446_102 : List E := [(.iconst 1, 1, []), (.goto 4, 0, [107])]
def s446_106 : List E := [(.iconst 0, 0, []), (.nop, 0, [107])]
def s446_107 : List E := [(.istore 5, 0, [5]), (.aload_n 0, 0, [0]), (.getfield 277, 86, [16, 130, 81, 1]), (.iload_n 1, 0, [1]), (.iaload, 0, []), (.istore 6, 0, [6]), (.iload 5, 0, [5]), (.ifCond .eq 17, 0, [136]), (.iload 6, 0, [6]), (.ifCond .eq 48, 0, [172]), (.iload 6, 0, [6]), (.iconst 3, 3, []), (.if_icmp .eq 42, 0, [172]), (.goto 30, 0, [163])]
def s446_136 : List E := [(.aload_n 0, 0, [0]), (.getfield 274, 85, [16, 129, 87, 1]), (.iload_n 1, 0, [1]), (.laload, 0, []), (.ldc2_w 668, 1752003704, []), (.lcmp, 0, []), (.ifCond .ne 12, 0, [158]), (.iload 6, 0, [6]), (.iconst 1, 1, []), (.if_icmp .le 20, 0, [172]), (.goto 8, 0, [163])]
def s446_158 : List E := [(.iload 6, 0, [6]), (.ifCond .le 12, 0, [172]), (.nop, 0, [163])]
def s446_163 : List E := [(.aload_n 0, 0, [0]), (.bipush 48, 48, []), (.iload_n 2, 0, [2]), (.invokevirtual 357, 0, [243, 16, 33, 74, 0, 3, 0, 0]), (.pop, 0, []), (.return_, 0, [])]
def s446_172 : List E := [(.aload_n 0, 0, [0]), (.getfield 280, 87, [16, 131, 87, 1]), (.iload_n 1, 0, [1]), (.aload_n 0, 0, [0]), (.invokevirtual 1189, 0, [449, 16, 33, 8, 0, 5]), (.lastore, 0, []), (.aload_n 0, 0, [0]), (.getfield 283, 88, [16, 132, 87, 1]), (.iload_n 1, 0, [1]), (.aload_n 0, 0, [0]), (.getfield 280, 87, [16, 131, 87, 1]), (.iload_n 1, 0, [1]), (.laload, 0, []), (.lastore, 0, []), (.aload_n 0, 0, [0]), (.getfield 343, 0, [16, 2, 0]), (.ifCond .ne 28, 0, [226]), (.aload_n 0, 0, [0]), (.aload_n 0, 0, [0]), (.getfield 274, 85, [16, 129, 87, 1]), (.iload_n 1, 0, [1]), (.laload, 0, []), (.iload 6, 0, [6]), (.invokevirtual 1145, 0, [440, 16, 33, 73, 0, 3, 0, 5]), (.ifCond .eq 13, 0, [226]), (.aload_n 0, 0, [0]), (.getfield 283, 88, [16, 132, 87, 1]), (.iload_n 1, 0, [1]), (.aload_n 0, 0, [0]), (.invokevirtual 1189, 0, [449, 16, 33, 8, 0, 5]), (.lastore, 0, []), (.nop, 0, [226])]
def s446_226 : List E := [(.aload_n 0, 0, [0]), (.getfield 343, 0, [16, 2, 0]), (.ifCond .ne 37, 0, [267]), (.aload_n 0, 0, [0]), (.getfield 280, 87, [16, 131, 87, 1]), (.iload_n 1, 0, [1]), (.laload, 0, []), (.ldc2_w 705, 12000, []), (.lcmp, 0, []), (.ifCond .gt 16, 0, [259]), (.aload_n 0, 0, [0]), (.getfield 283, 88, [16, 132, 87, 1]), (.iload_n 1, 0, [1]), (.laload, 0, []), (.ldc2_w 705, 12000, []), (.lcmp, 0, []), (.ifCond .le 11, 0, [267]), (.nop, 0, [259])]
def s446_259 : List E := [(.aload_n 0, 0, [0]), (.bipush 50, 50, []), (.iload_n 2, 0, [2]), (.invokevirtual 357, 0, [243, 16, 33, 74, 0, 3, 0, 0]), (.pop, 0, []), (.nop, 0, [267])]
def s446_267 : List E := [(.iload_n 1, 0, [1]), (.ifCond .le 22, 0, [290]), (.aload_n 0, 0, [0]), (.getfield 274, 85, [16, 129, 87, 1]), (.iload_n 1, 0, [1]), (.iconst 1, 1, []), (.isub, 0, []), (.laload, 0, []), (.ldc2_w 666, 1735162214, []), (.lcmp, 0, []), (.ifCond .ne 7, 0, [290]), (.iconst 1, 1, []), (.goto 4, 0, [291])]
def s446_290 : List E := [(.iconst 0, 0, []), (.nop, 0, [291])]
def s446_291 : List E := [(.istore 7, 0, [7]), (.iload 7, 0, [7]), (.ifCond .eq 33, 0, [328]), (.aload_n 0, 0, [0]), (.getfield 274, 85, [16, 129, 87, 1]), (.iload_n 1, 0, [1]), (.laload, 0, []), (.ldc2_w 670, 1819239265, []), (.lcmp, 0, []), (.ifCond .ne 20, 0, [328]), (.aload_n 0, 0, [0]), (.getfield 277, 86, [16, 130, 81, 1]), (.iload_n 1, 0, [1]), (.iconst 1, 1, []), (.isub, 0, []), (.iaload, 0, []), (.iload 6, 0, [6]), (.if_icmp .ne 7, 0, [328]), (.iconst 1, 1, []), (.goto 4, 0, [329])]
def s446_328 : List E := [(.iconst 0, 0, []), (.nop, 0, [329])]
def s446_329 : List E := [(.istore 8, 0, [8]), (.aload_n 0, 0, [0]), (.getfield 343, 0, [16, 2, 0]), (.ifCond .ne 63, 0, [398]), (.iload 7, 0, [7]), (.ifCond .ne 16, 0, [356]), (.aload_n 0, 0, [0]), (.getfield 274, 85, [16, 129, 87, 1]), (.iload_n 1, 0, [1]), (.laload, 0, []), (.ldc2_w 670, 1819239265, []), (.lcmp, 0, []), (.ifCond .ne 8, 0, [361]), (.nop, 0, [356])]
def s446_356 : List E := [(.iload 8, 0, [8]), (.ifCond .eq 32, 0, [390]), (.nop, 0, [361])]
def s446_361 : List E := [(.aload_n 0, 0, [0]), (.getfield 274, 85, [16, 129, 87, 1]), (.iload_n 1, 0, [1]), (.laload, 0, []), (.ldc2_w 670, 1819239265, []), (.lcmp, 0, []), (.ifCond .ne 27, 0, [398]), (.iload 6, 0, [6]), (.ifCond .ne 22, 0, [398]), (.aload_n 0, 0, [0]), (.getfield 283, 88, [16, 132, 87, 1]), (.iload_n 1, 0, [1]), (.laload, 0, []), (.lconst 0, 0, []), (.lcmp, 0, []), (.ifCond .eq 11, 0, [398]), (.nop, 0, [390])]
def s446_390 : List E := [(.aload_n 0, 0, [0]), (.bipush 49, 49, []), (.iload_n 2, 0, [2]), (.invokevirtual 357, 0, [243, 16, 33, 74, 0, 3, 0, 0]), (.pop, 0, []), (.nop, 0, [398])]
def s446_398 : List E := [(.iinc 1 1, 1, [1]), (.goto (-399), 0, [2])]
def s446_404 : List E := [(.aload_n 0, 0, [0]), (.getfield 343, 0, [16, 2, 0]), (.ifCond .ne 32, 0, [440]), (.aload_n 0, 0, [0]), (.getfield 274, 85, [16, 129, 87, 1]), (.aload_n 0, 0, [0]), (.getfield 1081, 0, [16, 128, 0]), (.iconst 1, 1, []), (.isub, 0, []), (.laload, 0, []), (.ldc2_w 666, 1735162214, []), (.lcmp, 0, []), (.ifCond .ne 14, 0, [440]), (.aload_n 0, 0, [0]), (.bipush 49, 49, []), (.aload_n 0, 0, [0]), (.getfield 1176, 0, [16, 140, 0]), (.invokevirtual 357, 0, [243, 16, 33, 74, 0, 3, 0, 0]), (.pop, 0, []), (.nop, 0, [440])]
def s446_440 : List E := [(.return_, 0, [])]
def cd446 : List (Nat × List E) := [(0, s446_0), (2, s446_2), (52, s446_52), (57, s446_57), (76, s446_76), (102, s446_102), (106, s446_106), (107, s446_107), (136, s446_136), (158, s446_158), (163, s446_163), (172, s446_172), (226, s446_226), (259, s446_259), (267, s446_267), (290, s446_290), (291, s446_291), (328, s446_328), (329, s446_329), (356, s446_356), (361, s446_361), (390, s446_390), (398, s446_398), (404, s446_404), (440, s446_440)]
theorem l446_0 : lkc cd446 0 = s446_0 := rfl
theorem l446_2 : lkc cd446 2 = s446_2 := rfl
theorem l446_52 : lkc cd446 52 = s446_52 := rfl
theorem l446_57 : lkc cd446 57 = s446_57 := rfl
theorem l446_76 : lkc cd446 76 = s446_76 := rfl
theorem l446_102 : lkc cd446 102 = s446_102 := rfl
theorem l446_106 : lkc cd446 106 = s446_106 := rfl
theorem l446_107 : lkc cd446 107 = s446_107 := rfl
theorem l446_136 : lkc cd446 136 = s446_136 := rfl
theorem l446_158 : lkc cd446 158 = s446_158 := rfl
theorem l446_163 : lkc cd446 163 = s446_163 := rfl
theorem l446_172 : lkc cd446 172 = s446_172 := rfl
theorem l446_226 : lkc cd446 226 = s446_226 := rfl
theorem l446_259 : lkc cd446 259 = s446_259 := rfl
theorem l446_267 : lkc cd446 267 = s446_267 := rfl
theorem l446_290 : lkc cd446 290 = s446_290 := rfl
theorem l446_291 : lkc cd446 291 = s446_291 := rfl
theorem l446_328 : lkc cd446 328 = s446_328 := rfl
theorem l446_329 : lkc cd446 329 = s446_329 := rfl
theorem l446_356 : lkc cd446 356 = s446_356 := rfl
theorem l446_361 : lkc cd446 361 = s446_361 := rfl
theorem l446_390 : lkc cd446 390 = s446_390 := rfl
theorem l446_398 : lkc cd446 398 = s446_398 := rfl
theorem l446_404 : lkc cd446 404 = s446_404 := rfl
theorem l446_440 : lkc cd446 440 = s446_440 := rfl
theorem k446 : chkM 446 16 true cd446 = true := by decide +kernel
/- FontHouseModel.uByte()I -/
def s447_0 : List E := [(.aload_n 0, 0, [0]), (.getfield 343, 0, [16, 2, 0]), (.ifCond .gt 11, 0, [15]), (.aload_n 0, 0, [0]), (.iconst 1, 1, []), (.invokevirtual 1179, 0, [445, 16, 33, 8, 0, 3, 0]), (.ifCond .ne 5, 0, [17]), (.nop, 0, [15])]
def s447_15 : List E := [(.iconst 0, 0, []), (.ireturn, 0, [])]
def s447_17 : List E := [(.aload_n 0, 0, [0]), (.dup, 0, []), (.getfield 1176, 0, [16, 140, 0]), (.iconst 1, 1, []), (.iadd, 0, []), (.putfield 1176, 0, [16, 140, 0]), (.aload_n 0, 0, [0]), (.aload_n 0, 0, [0]), (.getfield 1173, 0, [16, 139, 0]), (.aload_n 0, 0, [0]), (.getfield 1176, 0, [16, 140, 0]), (.iconst 1, 1, []), (.isub, 0, []), (.invokevirtual 335, 0, [233, 16, 33, 29, 0, 0, 0, 0]), (.ireturn, 0, [])]
def cd447 : List (Nat × List E) := [(0, s447_0), (15, s447_15), (17, s447_17)]
theorem l447_0 : lkc cd447 0 = s447_0 := rfl
theorem l447_15 : lkc cd447 15 = s447_15 := rfl
theorem l447_17 : lkc cd447 17 = s447_17 := rfl
theorem k447 : chkM 447 16 true cd447 = true := by decide +kernel
/- FontHouseModel.uFour()J -/
def s448_0 : List E := [(.aload_n 0, 0, [0]), (.getfield 343, 0, [16, 2, 0]), (.ifCond .gt 11, 0, [15]), (.aload_n 0, 0, [0]), (.iconst 4, 4, []), (.invokevirtual 1179, 0, [445, 16, 33, 9, 0, 3, 0]), (.ifCond .ne 5, 0, [17]), (.nop, 0, [15])]
def s448_15 : List E := [(.lconst 0, 0, []), (.lreturn, 0, [])]
def s448_17 : List E := [(.aload_n 0, 0, [0]), (.dup, 0, []), (.getfield 1176, 0, [16, 140, 0]), (.iconst 4, 4, []), (.iadd, 0, []), (.putfield 1176, 0, [16, 140, 0]), (.aload_n 0, 0, [0]), (.aload_n 0, 0, [0]), (.getfield 1173, 0, [16, 139, 0]), (.aload_n 0, 0, [0]), (.getfield 1176, 0, [16, 140, 0]), (.iconst 4, 4, []), (.isub, 0, []), (.invokevirtual 680, 0, [327, 16, 33, 8, 0, 5, 0, 0]), (.lreturn, 0, [])]
def cd448 : List (Nat × List E) := [(0, s448_0), (15, s448_15), (17, s448_17)]
theorem l448_0 : lkc cd448 0 = s448_0 := rfl
theorem l448_15 : lkc cd448 15 = s448_15 := rfl
theorem l448_17 : lkc cd448 17 = s448_17 := rfl
theorem k448 : chkM 448 16 true cd448 = true := by decide +kernel
