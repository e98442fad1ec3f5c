set_option maxRecDepth 100000
/- FontHouseModel.least()V -/
def s405_0 : List E := [(.iconst 0, 0, []), (.istore_n 1, 0, [1]), (.nop, 0, [2])]
def s405_2 : List E := [(.iload_n 1, 0, [1]), (.iconst 4, 4, []), (.if_icmp .ge 16, 0, [20]), (.aload_n 0, 0, [0]), (.getfield 175, 52, [16, 79, 81, 1]), (.iload_n 1, 0, [1]), (.iconst 0, 0, []), (.iastore, 0, []), (.iinc 1 1, 1, [1]), (.goto (-15), 0, [2])]
def s405_20 : List E := [(.iconst 0, 0, []), (.istore_n 1, 0, [1]), (.nop, 0, [22])]
def s405_22 : List E := [(.iload_n 1, 0, [1]), (.aload_n 0, 0, [0]), (.getfield 814, 0, [16, 75, 0]), (.if_icmp .ge 169, 0, [196]), (.aload_n 0, 0, [0]), (.getfield 175, 52, [16, 79, 81, 1]), (.iconst 0, 0, []), (.iload_n 1, 0, [1]), (.ifCond .eq 18, 0, [54]), (.aload_n 0, 0, [0]), (.getfield 181, 54, [16, 81, 81, 1]), (.iload_n 1, 0, [1]), (.iaload, 0, []), (.aload_n 0, 0, [0]), (.getfield 175, 52, [16, 79, 81, 1]), (.iconst 0, 0, []), (.iaload, 0, []), (.if_icmp .ge 12, 0, [63]), (.nop, 0, [54])]
def s405_54 : List E := [(.aload_n 0, 0, [0]), (.getfield 181, 54, [16, 81, 81, 1]), (.iload_n 1, 0, [1]), (.iaload, 0, []), (.goto 9, 0, [69])]
def s405_63 : List E := [(.aload_n 0, 0, [0]), (.getfield 175, 52, [16, 79, 81, 1]), (.iconst 0, 0, []), (.iaload, 0, []), (.nop, 0, [69])]
def s405_69 : List E := [(.iastore, 0, []), (.aload_n 0, 0, [0]), (.getfield 175, 52, [16, 79, 81, 1]), (.iconst 1, 1, []), (.iload_n 1, 0, [1]), (.ifCond .eq 18, 0, [94]), (.aload_n 0, 0, [0]), (.getfield 184, 55, [16, 82, 81, 1]), (.iload_n 1, 0, [1]), (.iaload, 0, []), (.aload_n 0, 0, [0]), (.getfield 175, 52, [16, 79, 81, 1]), (.iconst 1, 1, []), (.iaload, 0, []), (.if_icmp .ge 12, 0, [103]), (.nop, 0, [94])]
def s405_94 : List E := [(.aload_n 0, 0, [0]), (.getfield 184, 55, [16, 82, 81, 1]), (.iload_n 1, 0, [1]), (.iaload, 0, []), (.goto 9, 0, [109])]
def s405_103 : List E := [(.aload_n 0, 0, [0]), (.getfield 175, 52, [16, 79, 81, 1]), (.iconst 1, 1, []), (.iaload, 0, []), (.nop, 0, [109])]
def s405_109 : List E := [(.iastore, 0, []), (.aload_n 0, 0, [0]), (.getfield 175, 52, [16, 79, 81, 1]), (.iconst 2, 2, []), (.iload_n 1, 0, [1]), (.ifCond .eq 18, 0, [134]), (.aload_n 0, 0, [0]), (.getfield 181, 54, [16, 81, 81, 1]), (.iload_n 1, 0, [1]), (.iaload, 0, []), (.aload_n 0, 0, [0]), (.getfield 175, 52, [16, 79, 81, 1]), (.iconst 2, 2, []), (.iaload, 0, []), (.if_icmp .le 12, 0, [143]), (.nop, 0, [134])]
def s405_134 : List E := [(.aload_n 0, 0, [0]), (.getfield 181, 54, [16, 81, 81, 1]), (.iload_n 1, 0, [1]), (.iaload, 0, []), (.goto 9, 0, [149])]
def s405_143 : List E := [(.aload_n 0, 0, [0]), (.getfield 175, 52, [16, 79, 81, 1]), (.iconst 2, 2, []), (.iaload, 0, []), (.nop, 0, [149])]
def s405_149 : List E := [(.iastore, 0, []), (.aload_n 0, 0, [0]), (.getfield 175, 52, [16, 79, 81, 1]), (.iconst 3, 3, []), (.iload_n 1, 0, [1]), (.ifCond .eq 18, 0, [174]), (.aload_n 0, 0, [0]), (.getfield 184, 55, [16, 82, 81, 1]), (.iload_n 1, 0, [1]), (.iaload, 0, []), (.aload_n 0, 0, [0]), (.getfield 175, 52, [16, 79, 81, 1]), (.iconst 3, 3, []), (.iaload, 0, []), (.if_icmp .le 12, 0, [183]), (.nop, 0, [174])]
def s405_174 : List E := [(.aload_n 0, 0, [0]), (.getfield 184, 55, [16, 82, 81, 1]), (.iload_n 1, 0, [1]), (.iaload, 0, []), (.goto 9, 0, [189])]
def s405_183 : List E := [(.aload_n 0, 0, [0]), (.getfield 175, 52, [16, 79, 81, 1]), (.iconst 3, 3, []), (.iaload, 0, []), (.nop, 0, [189])]
def s405_189 : List E := [(.iastore, 0, []), (.iinc 1 1, 1, [1]), (.goto (-171), 0, [22])]
def s405_196 : List E := [(.return_, 0, [])]
def cd405 : List (Nat × List E) := [(0, s405_0), (2, s405_2), (20, s405_20), (22, s405_22), (54, s405_54), (63, s405_63), (69, s405_69), (94, s405_94), (103, s405_103), (109, s405_109), (134, s405_134), (143, s405_143), (149, s405_149), (174, s405_174), (183, s405_183), (189, s405_189), (196, s405_196)]
theorem l405_0 : lkc cd405 0 = s405_0 := rfl
theorem l405_2 : lkc cd405 2 = s405_2 := rfl
theorem l405_20 : lkc cd405 20 = s405_20 := rfl
theorem l405_22 : lkc cd405 22 = s405_22 := rfl
theorem l405_54 : lkc cd405 54 = s405_54 := rfl
theorem l405_63 : lkc cd405 63 = s405_63 := rfl
theorem l405_69 : lkc cd405 69 = s405_69 := rfl
theorem l405_94 : lkc cd405 94 = s405_94 := rfl
theorem l405_103 : lkc cd405 103 = s405_103 := rfl
theorem l405_109 : lkc cd405 109 = s405_109 := rfl
theorem l405_134 : lkc cd405 134 = s405_134 := rfl
theorem l405_143 : lkc cd405 143 = s405_143 := rfl
theorem l405_149 : lkc cd405 149 = s405_149 := rfl
theorem l405_174 : lkc cd405 174 = s405_174 := rfl
theorem l405_183 : lkc cd405 183 = s405_183 := rfl
theorem l405_189 : lkc cd405 189 = s405_189 := rfl
theorem l405_196 : lkc cd405 196 = s405_196 := rfl
theorem k405 : chkM 405 16 true cd405 = true := by decide +kernel
/- FontHouseModel.putRecord()V -/
def s406_0 : List E := [(.aload_n 0, 0, [0]), (.getfield 814, 0, [16, 75, 0]), (.ifCond .ne 11, 0, [15]), (.aload_n 0, 0, [0]), (.getfield 817, 0, [16, 76, 0]), (.ifCond .ne 4, 0, [15]), (.return_, 0, [])]
def s406_15 : List E := [(.aload_n 0, 0, [0]), (.aload_n 0, 0, [0]), (.getfield 817, 0, [16, 76, 0]), (.ifCond .le 7, 0, [27]), (.iconst (-1), -1, []), (.goto 7, 0, [31])]
def s406_27 : List E := [(.aload_n 0, 0, [0]), (.getfield 811, 0, [16, 74, 0]), (.nop, 0, [31])]
def s406_31 : List E := [(.invokevirtual 866, 0, [407, 16, 33, 52, 0, 100, 0]), (.iconst 0, 0, []), (.istore_n 1, 0, [1]), (.nop, 0, [36])]
def s406_36 : List E := [(.iload_n 1, 0, [1]), (.iconst 4, 4, []), (.if_icmp .ge 19, 0, [57]), (.aload_n 0, 0, [0]), (.aload_n 0, 0, [0]), (.getfield 175, 52, [16, 79, 81, 1]), (.iload_n 1, 0, [1]), (.iaload, 0, []), (.invokevirtual 866, 0, [407, 16, 33, 52, 0, 100, 0]), (.iinc 1 1, 1, [1]), (.goto (-18), 0, [36])]
def s406_57 : List E := [(.aload_n 0, 0, [0]), (.getfield 817, 0, [16, 76, 0]), (.ifCond .le 21, 0, [82]), (.aload_n 0, 0, [0]), (.invokevirtual 869, 0, [409, 16, 33, 30, 0, 100]), (.aload_n 0, 0, [0]), (.invokevirtual 857, 0, [375, 16, 33, 73, 0, 3]), (.ifCond .eq 44, 0, [116]), (.aload_n 0, 0, [0]), (.invokevirtual 872, 0, [410, 16, 33, 31, 0, 100]), (.goto 37, 0, [116])]
def s406_82 : List E := [(.iconst 0, 0, []), (.istore_n 1, 0, [1]), (.nop, 0, [84])]
def s406_84 : List E := [(.iload_n 1, 0, [1]), (.aload_n 0, 0, [0]), (.getfield 811, 0, [16, 74, 0]), (.if_icmp .ge 19, 0, [108]), (.aload_n 0, 0, [0]), (.aload_n 0, 0, [0]), (.getfield 178, 53, [16, 80, 81, 1]), (.iload_n 1, 0, [1]), (.iaload, 0, []), (.invokevirtual 866, 0, [407, 16, 33, 52, 0, 100, 0]), (.iinc 1 1, 1, [1]), (.goto (-21), 0, [84])]
def s406_108 : List E := [(.aload_n 0, 0, [0]), (.invokevirtual 872, 0, [410, 16, 33, 31, 0, 100]), (.aload_n 0, 0, [0]), (.invokevirtual 875, 0, [411, 16, 33, 8, 0, 100]), (.nop, 0, [116])]
def s406_116 : List E := [(.aload_n 0, 0, [0]), (.getfield 860, 0, [16, 96, 0]), (.iconst 3, 3, []), (.iand, 0, []), (.ifCond .le 11, 0, [133]), (.aload_n 0, 0, [0]), (.iconst 0, 0, []), (.invokevirtual 863, 0, [408, 16, 33, 73, 0, 100, 0]), (.goto (-14), 0, [116])]
def s406_133 : List E := [(.return_, 0, [])]
def cd406 : List (Nat × List E) := [(0, s406_0), (15, s406_15), (27, s406_27), (31, s406_31), (36, s406_36), (57, s406_57), (82, s406_82), (84, s406_84), (108, s406_108), (116, s406_116), (133, s406_133)]
theorem l406_0 : lkc cd406 0 = s406_0 := rfl
theorem l406_15 : lkc cd406 15 = s406_15 := rfl
theorem l406_27 : lkc cd406 27 = s406_27 := rfl
theorem l406_31 : lkc cd406 31 = s406_31 := rfl
theorem l406_36 : lkc cd406 36 = s406_36 := rfl
theorem l406_57 : lkc cd406 57 = s406_57 := rfl
theorem l406_82 : lkc cd406 82 = s406_82 := rfl
theorem l406_84 : lkc cd406 84 = s406_84 := rfl
theorem l406_108 : lkc cd406 108 = s406_108 := rfl
theorem l406_116 : lkc cd406 116 = s406_116 := rfl
theorem l406_133 : lkc cd406 133 = s406_133 := rfl
theorem k406 : chkM 406 16 true cd406 = true := by decide +kernel
/- FontHouseModel.putTwo(I)V -/
def s407_0 : List E := [(.aload_n 0, 0, [0]), (.iload_n 1, 0, [1]), (.bipush 8, 8, []), (.ishr, 0, []), (.invokevirtual 863, 0, [408, 16, 33, 8, 0, 100, 0]), (.aload_n 0, 0, [0]), (.iload_n 1, 0, [1]), (.invokevirtual 863, 0, [408, 16, 33, 8, 0, 100, 0]), (.return_, 0, [])]
def cd407 : List (Nat × List E) := [(0, s407_0)]
theorem l407_0 : lkc cd407 0 = s407_0 := rfl
theorem k407 : chkM 407 16 true cd407 = true := by decide +kernel
/- FontHouseModel.lays(I)V -/
def s408_0 : List E := [(.aload_n 0, 0, [0]), (.getfield 860, 0, [16, 96, 0]), (.sipush 20000, 20000, []), (.if_icmp .ge 14, 0, [21]), (.aload_n 0, 0, [0]), (.getfield 214, 65, [16, 95, 83, 1]), (.aload_n 0, 0, [0]), (.getfield 860, 0, [16, 96, 0]), (.iload_n 1, 0, [1]), (.i2b, 0, []), (.bastore, 0, [41]), (.nop, 0, [21])]
def s408_21 : List E := [(.aload_n 0, 0, [0]), (.dup, 0, []), (.getfield 860, 0, [16, 96, 0]), (.iconst 1, 1, []), (.iadd, 0, []), (.putfield 860, 0, [16, 96, 0]), (.return_, 0, [])]
def cd408 : List (Nat × List E) := [(0, s408_0), (21, s408_21)]
theorem l408_0 : lkc cd408 0 = s408_0 := rfl
theorem l408_21 : lkc cd408 21 = s408_21 := rfl
theorem k408 : chkM 408 16 true cd408 = true := by decide +kernel
/- FontHouseModel.putParts()V -/
def s409_0 : List E := [(.iconst 0, 0, []), (.istore_n 1, 0, [1]), (.nop, 0, [2])]
def s409_2 : List E := [(.iload_n 1, 0, [1]), (.aload_n 0, 0, [0]), (.getfield 817, 0, [16, 76, 0]), (.if_icmp .ge 115, 0, [122]), (.aload_n 0, 0, [0]), (.aload_n 0, 0, [0]), (.getfield 193, 58, [16, 85, 81, 1]), (.iload_n 1, 0, [1]), (.iaload, 0, []), (.invokevirtual 866, 0, [407, 16, 33, 8, 0, 100, 0]), (.aload_n 0, 0, [0]), (.aload_n 0, 0, [0]), (.getfield 196, 59, [16, 86, 81, 1]), (.iload_n 1, 0, [1]), (.iaload, 0, []), (.invokevirtual 866, 0, [407, 16, 33, 8, 0, 100, 0]), (.aload_n 0, 0, [0]), (.getfield 193, 58, [16, 85, 81, 1]), (.iload_n 1, 0, [1]), (.iaload, 0, []), (.iconst 1, 1, []), (.iand, 0, []), (.ifCond .le 26, 0, [64]), (.aload_n 0, 0, [0]), (.aload_n 0, 0, [0]), (.getfield 199, 60, [16, 87, 81, 1]), (.iload_n 1, 0, [1]), (.iaload, 0, []), (.invokevirtual 866, 0, [407, 16, 33, 8, 0, 100, 0]), (.aload_n 0, 0, [0]), (.aload_n 0, 0, [0]), (.getfield 202, 61, [16, 88, 81, 1]), (.iload_n 1, 0, [1]), (.iaload, 0, []), (.invokevirtual 866, 0, [407, 16, 33, 8, 0, 100, 0]), (.goto 23, 0, [84])]
def s409_64 : List E := [(.aload_n 0, 0, [0]), (.aload_n 0, 0, [0]), (.getfield 199, 60, [16, 87, 81, 1]), (.iload_n 1, 0, [1]), (.iaload, 0, []), (.invokevirtual 863, 0, [408, 16, 33, 29, 0, 100, 0]), (.aload_n 0, 0, [0]), (.aload_n 0, 0, [0]), (.getfield 202, 61, [16, 88, 81, 1]), (.iload_n 1, 0, [1]), (.iaload, 0, []), (.invokevirtual 863, 0, [408, 16, 33, 29, 0, 100, 0]), (.nop, 0, [84])]
def s409_84 : List E := [(.iconst 0, 0, []), (.istore_n 2, 0, [2]), (.nop, 0, [86])]
def s409_86 : List E := [(.iload_n 2, 0, [2]), (.aload_n 0, 0, [0]), (.getfield 205, 62, [16, 89, 81, 1]), (.iload_n 1, 0, [1]), (.iaload, 0, []), (.if_icmp .ge 23, 0, [116]), (.aload_n 0, 0, [0]), (.aload_n 0, 0, [0]), (.getfield 208, 63, [16, 90, 81, 1]), (.iconst 4, 4, []), (.iload_n 1, 0, [1]), (.imul, 0, []), (.iload_n 2, 0, [2]), (.iadd, 0, []), (.iaload, 0, []), (.invokevirtual 866, 0, [407, 16, 33, 8, 0, 100, 0]), (.iinc 2 1, 1, [2]), (.goto (-27), 0, [86])]
def s409_116 : List E := [(.iinc 1 1, 1, [1]), (.goto (-117), 0, [2])]
def s409_122 : List E := [(.return_, 0, [])]
def cd409 : List (Nat × List E) := [(0, s409_0), (2, s409_2), (64, s409_64), (84, s409_84), (86, s409_86), (116, s409_116), (122, s409_122)]
theorem l409_0 : lkc cd409 0 = s409_0 := rfl
theorem l409_2 : lkc cd409 2 = s409_2 := rfl
theorem l409_64 : lkc cd409 64 = s409_64 := rfl
theorem l409_84 : lkc cd409 84 = s409_84 := rfl
theorem l409_86 : lkc cd409 86 = s409_86 := rfl
theorem l409_116 : lkc cd409 116 = s409_116 := rfl
theorem l409_122 : lkc cd409 122 = s409_122 := rfl
theorem k409 : chkM 409 16 true cd409 = true := by decide +kernel
/- FontHouseModel.putCode()V -/
def s410_0 : List E := [(.aload_n 0, 0, [0]), (.aload_n 0, 0, [0]), (.getfield 820, 0, [16, 77, 0]), (.invokevirtual 866, 0, [407, 16, 33, 8, 0, 100, 0]), (.iconst 0, 0, []), (.istore_n 1, 0, [1]), (.nop, 0, [10])]
def s410_10 : List E := [(.iload_n 1, 0, [1]), (.aload_n 0, 0, [0]), (.getfield 820, 0, [16, 77, 0]), (.if_icmp .ge 19, 0, [34]), (.aload_n 0, 0, [0]), (.aload_n 0, 0, [0]), (.getfield 211, 64, [16, 91, 83, 1]), (.iload_n 1, 0, [1]), (.baload, 0, [41]), (.invokevirtual 863, 0, [408, 16, 33, 29, 0, 100, 0]), (.iinc 1 1, 1, [1]), (.goto (-21), 0, [10])]
def s410_34 : List E := [(.return_, 0, [])]
def cd410 : List (Nat × List E) := [(0, s410_0), (10, s410_10), (34, s410_34)]
theorem l410_0 : lkc cd410 0 = s410_0 := rfl
theorem l410_10 : lkc cd410 10 = s410_10 := rfl
theorem l410_34 : lkc cd410 34 = s410_34 := rfl
theorem k410 : chkM 410 16 true cd410 = true := by decide +kernel
/- FontHouseModel.putPoints()V -/
def s411_0 : List E := [(.iconst 0, 0, []), (.istore_n 1, 0, [1]), (.nop, 0, [2])]
def s411_2 : List E := [(.iload_n 1, 0, [1]), (.aload_n 0, 0, [0]), (.getfield 814, 0, [16, 75, 0]), (.if_icmp .ge 111, 0, [118]), (.aload_n 0, 0, [0]), (.getfield 181, 54, [16, 81, 81, 1]), (.iload_n 1, 0, [1]), (.iaload, 0, []), (.iload_n 1, 0, [1]), (.ifCond .le 14, 0, [31]), (.aload_n 0, 0, [0]), (.getfield 181, 54, [16, 81, 81, 1]), (.iload_n 1, 0, [1]), (.iconst 1, 1, []), (.isub, 0, []), (.iaload, 0, []), (.goto 4, 0, [32])]
def s411_31 : List E := [(.iconst 0, 0, []), (.nop, 0, [32])]
def s411_32 : List E := [(.isub, 0, []), (.istore_n 2, 0, [2]), (.aload_n 0, 0, [0]), (.getfield 184, 55, [16, 82, 81, 1]), (.iload_n 1, 0, [1]), (.iaload, 0, []), (.iload_n 1, 0, [1]), (.ifCond .le 14, 0, [55]), (.aload_n 0, 0, [0]), (.getfield 184, 55, [16, 82, 81, 1]), (.iload_n 1, 0, [1]), (.iconst 1, 1, []), (.isub, 0, []), (.iaload, 0, []), (.goto 4, 0, [56])]
def s411_55 : List E := [(.iconst 0, 0, []), (.nop, 0, [56])]
def s411_56 : List E := [(.isub, 0, []), (.istore_n 3, 0, [3]), (.aload_n 0, 0, [0]), (.getfield 217, 66, [16, 97, 81, 1]), (.iload_n 1, 0, [1]), (.aload_n 0, 0, [0]), (.getfield 187, 56, [16, 83, 89, 1]), (.iload_n 1, 0, [1]), (.baload, 0, [44]), (.ifCond .eq 7, 0, [76]), (.iconst 1, 1, []), (.goto 4, 0, [77])]
def s411_76 : List E := [(.iconst 0, 0, []), (.nop, 0, [77])]
def s411_77 : List E := [(.iload_n 2, 0, [2]), (.iconst 2, 2, []), (.bipush 16, 16, []), (.invokestatic 878, 0, [412, 49, 0, 0, 0, 0, 0]), (.iadd, 0, []), (.iload_n 3, 0, [3]), (.iconst 4, 4, []), (.bipush 32, 32, []), (.invokestatic 878, 0, [412, 49, 0, 0, 0, 0, 0]), (.iadd, 0, []), (.iload_n 1, 0, [1]), (.ifCond .ne 15, 0, [109]), (.aload_n 0, 0, [0]), (.getfield 823, 0, [16, 78, 3]), (.ifCond .eq 8, 0, [109]), (.bipush 64, 64, []), (.goto 4, 0, [110])]
def s411_109 : List E := [(.iconst 0, 0, []), (.nop, 0, [110])]
def s411_110 : List E := [(.iadd, 0, []), (.iastore, 0, []), (.iinc 1 1, 1, [1]), (.goto (-113), 0, [2])]
def s411_118 : List E := [(.iconst 0, 0, []), (.istore_n 1, 0, [1]), (.nop, 0, [120])]
def s411_120 : List E := [(.iload_n 1, 0, [1]), (.aload_n 0, 0, [0]), (.getfield 814, 0, [16, 75, 0]), (.if_icmp .ge 88, 0, [213]), (.iconst 0, 0, []), (.istore_n 2, 0, [2]), (.nop, 0, [130])]
def s411_130 : List E := [(.iload_n 2, 0, [2]), (.sipush 255, 255, []), (.if_icmp .ge 40, 0, [174]), (.iload_n 1, 0, [1]), (.iload_n 2, 0, [2]), (.iadd, 0, []), (.iconst 1, 1, []), (.iadd, 0, []), (.aload_n 0, 0, [0]), (.getfield 814, 0, [16, 75, 0]), (.if_icmp .ge 28, 0, [174]), (.aload_n 0, 0, [0]), (.getfield 217, 66, [16, 97, 81, 1]), (.iload_n 1, 0, [1]), (.iload_n 2, 0, [2]), (.iadd, 0, []), (.iconst 1, 1, []), (.iadd, 0, []), (.iaload, 0, []), (.aload_n 0, 0, [0]), (.getfield 217, 66, [16, 97, 81, 1]), (.iload_n 1, 0, [1]), (.iaload, 0, []), (.if_icmp .ne 9, 0, [174]), (.iinc 2 1, 1, [2]), (.goto (-41), 0, [130])]
def s411_174 : List E := [(.aload_n 0, 0, [0]), (.aload_n 0, 0, [0]), (.getfield 217, 66, [16, 97, 81, 1]), (.iload_n 1, 0, [1]), (.iaload, 0, []), (.iload_n 2, 0, [2]), (.ifCond .le 8, 0, [190]), (.bipush 8, 8, []), (.goto 4, 0, [191])]
def s411_190 : List E := [(.iconst 0, 0, []), (.nop, 0, [191])]
def s411_191 : List E := [(.iadd, 0, []), (.invokevirtual 863, 0, [408, 16, 33, 50, 0, 100, 0]), (.iload_n 2, 0, [2]), (.ifCond .le 8, 0, [204]), (.aload_n 0, 0, [0]), (.iload_n 2, 0, [2]), (.invokevirtual 863, 0, [408, 16, 33, 50, 0, 100, 0]), (.nop, 0, [204])]
def s411_204 : List E := [(.iload_n 1, 0, [1]), (.iload_n 2, 0, [2]), (.iconst 1, 1, []), (.iadd, 0, []), (.iadd, 0, []), (.istore_n 1, 0, [1]), (.goto (-90), 0, [120])]
def s411_213 : List E := [(.iconst 0, 0, []), (.istore_n 2, 0, [2]), (.nop, 0, [215])]
def s411_215 : List E := [(.iload_n 2, 0, [2]), (.aload_n 0, 0, [0]), (.getfield 814, 0, [16, 75, 0]), (.if_icmp .ge 36, 0, [256]), (.aload_n 0, 0, [0]), (.aload_n 0, 0, [0]), (.getfield 181, 54, [16, 81, 81, 1]), (.iload_n 2, 0, [2]), (.iaload, 0, []), (.iload_n 2, 0, [2]), (.ifCond .le 14, 0, [245]), (.aload_n 0, 0, [0]), (.getfield 181, 54, [16, 81, 81, 1]), (.iload_n 2, 0, [2]), (.iconst 1, 1, []), (.isub, 0, []), (.iaload, 0, []), (.goto 4, 0, [246])]
def s411_245 : List E := [(.iconst 0, 0, []), (.nop, 0, [246])]
def s411_246 : List E := [(.isub, 0, []), (.invokevirtual 881, 0, [413, 16, 33, 8, 0, 100, 0]), (.iinc 2 1, 1, [2]), (.goto (-38), 0, [215])]
def s411_256 : List E := [(.iconst 0, 0, []), (.istore_n 2, 0, [2]), (.nop, 0, [258])]
def s411_258 : List E := [(.iload_n 2, 0, [2]), (.aload_n 0, 0, [0]), (.getfield 814, 0, [16, 75, 0]), (.if_icmp .ge 36, 0, [299]), (.aload_n 0, 0, [0]), (.aload_n 0, 0, [0]), (.getfield 184, 55, [16, 82, 81, 1]), (.iload_n 2, 0, [2]), (.iaload, 0, []), (.iload_n 2, 0, [2]), (.ifCond .le 14, 0, [288]), (.aload_n 0, 0, [0]), (.getfield 184, 55, [16, 82, 81, 1]), (.iload_n 2, 0, [2]), (.iconst 1, 1, []), (.isub, 0, []), (.iaload, 0, []), (.goto 4, 0, [289])]
def s411_288 : List E := [(.iconst 0, 0, []), (.nop, 0, [289])]
def s411_289 : List E := [(.isub, 0, []), (.invokevirtual 881, 0, [413, 16, 33, 8, 0, 100, 0]), (.iinc 2 1, 1, [2]), (.goto (-38), 0, [258])]
def s411_299 : List E := [(.return_, 0, [])]
def cd411 : List (Nat × List E) := [(0, s411_0), (2, s411_2), (31, s411_31), (32, s411_32), (55, s411_55), (56, s411_56), (76, s411_76), (77, s411_77), (109, s411_109), (110, s411_110), (118, s411_118), (120, s411_120), (130, s411_130), (174, s411_174), (190, s411_190), (191, s411_191), (204, s411_204), (213, s411_213), (215, s411_215), (245, s411_245), (246, s411_246), (256, s411_256), (258, s411_258), (288, s411_288), (289, s411_289), (299, s411_299)]
theorem l411_0 : lkc cd411 0 = s411_0 := rfl
theorem l411_2 : lkc cd411 2 = s411_2 := rfl
theorem l411_31 : lkc cd411 31 = s411_31 := rfl
theorem l411_32 : lkc cd411 32 = s411_32 := rfl
theorem l411_55 : lkc cd411 55 = s411_55 := rfl
theorem l411_56 : lkc cd411 56 = s411_56 := rfl
theorem l411_76 : lkc cd411 76 = s411_76 := rfl
theorem l411_77 : lkc cd411 77 = s411_77 := rfl
theorem l411_109 : lkc cd411 109 = s411_109 := rfl
theorem l411_110 : lkc cd411 110 = s411_110 := rfl
theorem l411_118 : lkc cd411 118 = s411_118 := rfl
theorem l411_120 : lkc cd411 120 = s411_120 := rfl
theorem l411_130 : lkc cd411 130 = s411_130 := rfl
theorem l411_174 : lkc cd411 174 = s411_174 := rfl
theorem l411_190 : lkc cd411 190 = s411_190 := rfl
theorem l411_191 : lkc cd411 191 = s411_191 := rfl
theorem l411_204 : lkc cd411 204 = s411_204 := rfl
theorem l411_213 : lkc cd411 213 = s411_213 := rfl
theorem l411_215 : lkc cd411 215 = s411_215 := rfl
theorem l411_245 : lkc cd411 245 = s411_245 := rfl
theorem l411_246 : lkc cd411 246 = s411_246 := rfl
theorem l411_256 : lkc cd411 256 = s411_256 := rfl
theorem l411_258 : lkc cd411 258 = s411_258 := rfl
theorem l411_288 : lkc cd411 288 = s411_288 := rfl
theorem l411_289 : lkc cd411 289 = s411_289 := rfl
theorem l411_299 : lkc cd411 299 = s411_299 := rfl
theorem k411 : chkM 411 16 true cd411 = true := by decide +kernel
/- FontHouseModel.wayMark(III)I -/
def s412_0 : List E := [(.iload_n 0, 0, [0]), (.ifCond .ne 7, 0, [8]), (.iload_n 2, 0, [2]), (.goto 32, 0, [37])]
def s412_8 : List E := [(.iload_n 0, 0, [0]), (.sipush (-255), -255, []), (.if_icmp .lt 24, 0, [36]), (.iload_n 0, 0, [0]), (.sipush 255, 255, []), (.if_icmp .gt 17, 0, [36]), (.iload_n 1, 0, [1]), (.iload_n 0, 0, [0]), (.ifCond .le 7, 0, [31]), (.iload_n 2, 0, [2]), (.goto 4, 0, [32])]
def s412_31 : List E := [(.iconst 0, 0, []), (.nop, 0, [32])]
def s412_32 : List E := [(.iadd, 0, []), (.goto 4, 0, [37])]
def s412_36 : List E := [(.iconst 0, 0, []), (.nop, 0, [37])]
def s412_37 : List E := [(.ireturn, 0, [])]
def cd412 : List (Nat × List E) := [(0, s412_0), (8, s412_8), (31, s412_31), (32, s412_32), (36, s412_36), (37, s412_37)]
theorem l412_0 : lkc cd412 0 = s412_0 := rfl
theorem l412_8 : lkc cd412 8 = s412_8 := rfl
theorem l412_31 : lkc cd412 31 = s412_31 := rfl
theorem l412_32 : lkc cd412 32 = s412_32 := rfl
theorem l412_36 : lkc cd412 36 = s412_36 := rfl
theorem l412_37 : lkc cd412 37 = s412_37 := rfl
theorem k412 : chkM 412 16 true cd412 = true := by decide +kernel
/- FontHouseModel.putWay(I)V -/
def s413_0 : List E := [(.iload_n 1, 0, [1]), (.ifCond .eq 34, 0, [35]), (.iload_n 1, 0, [1]), (.sipush (-255), -255, []), (.if_icmp .lt 27, 0, [35]), (.iload_n 1, 0, [1]), (.sipush 255, 255, []), (.if_icmp .gt 20, 0, [35]), (.aload_n 0, 0, [0]), (.iload_n 1, 0, [1]), (.ifCond .ge 8, 0, [28]), (.iload_n 1, 0, [1]), (.ineg, 0, []), (.goto 4, 0, [29])]
def s413_28 : List E := [(.iload_n 1, 0, [1]), (.nop, 0, [29])]
def s413_29 : List E := [(.invokevirtual 863, 0, [408, 16, 33, 29, 0, 100, 0]), (.goto 12, 0, [44])]
def s413_35 : List E := [(.iload_n 1, 0, [1]), (.ifCond .eq 8, 0, [44]), (.aload_n 0, 0, [0]), (.iload_n 1, 0, [1]), (.invokevirtual 866, 0, [407, 16, 33, 8, 0, 100, 0]), (.nop, 0, [44])]
def s413_44 : List E := [(.return_, 0, [])]
def cd413 : List (Nat × List E) := [(0, s413_0), (28, s413_28), (29, s413_29), (35, s413_35), (44, s413_44)]
theorem l413_0 : lkc cd413 0 = s413_0 := rfl
theorem l413_28 : lkc cd413 28 = s413_28 := rfl
theorem l413_29 : lkc cd413 29 = s413_29 := rfl
theorem l413_35 : lkc cd413 35 = s413_35 := rfl
theorem l413_44 : lkc cd413 44 = s413_44 := rfl
theorem k413 : chkM 413 16 true cd413 = true := by decide +kernel
/- FontHouseModel.entry(II)J -/
def s414_0 : List E := [(.iload_n 1, 0, [1]), (.ifCond .lt 11, 0, [12]), (.iload_n 1, 0, [1]), (.aload_n 0, 0, [0]), (.getfield 1065, 0, [16, 117, 0]), (.if_icmp .lt 7, 0, [16]), (.nop, 0, [12])]
def s414_12 : List E := [(.ldc2_w 339, -1, []), (.lreturn, 0, [])]
def s414_16 : List E := [(.iload_n 2, 0, [2]), (.ifCond .ne 12, 0, [29]), (.aload_n 0, 0, [0]), (.getfield 256, 79, [16, 122, 87, 1]), (.iload_n 1, 0, [1]), (.laload, 0, []), (.goto 49, 0, [75])]
def s414_29 : List E := [(.iload_n 2, 0, [2]), (.iconst 1, 1, []), (.if_icmp .ne 13, 0, [44]), (.aload_n 0, 0, [0]), (.getfield 259, 80, [16, 123, 81, 1]), (.iload_n 1, 0, [1]), (.iaload, 0, []), (.i2l, 0, []), (.goto 34, 0, [75])]
def s414_44 : List E := [(.iload_n 2, 0, [2]), (.iconst 2, 2, []), (.if_icmp .ne 12, 0, [58]), (.aload_n 0, 0, [0]), (.getfield 262, 81, [16, 124, 87, 1]), (.iload_n 1, 0, [1]), (.laload, 0, []), (.goto 20, 0, [75])]
def s414_58 : List E := [(.iload_n 2, 0, [2]), (.iconst 3, 3, []), (.if_icmp .ne 12, 0, [72]), (.aload_n 0, 0, [0]), (.getfield 265, 82, [16, 125, 87, 1]), (.iload_n 1, 0, [1]), (.laload, 0, []), (.goto 6, 0, [75])]
def s414_72 : List E := [(.ldc2_w 771, -2, []), (.nop, 0, [75])]
def s414_75 : List E := [(.lreturn, 0, [])]
def cd414 : List (Nat × List E) := [(0, s414_0), (12, s414_12), (16, s414_16), (29, s414_29), (44, s414_44), (58, s414_58), (72, s414_72), (75, s414_75)]
theorem l414_0 : lkc cd414 0 = s414_0 := rfl
theorem l414_12 : lkc cd414 12 = s414_12 := rfl
theorem l414_16 : lkc cd414 16 = s414_16 := rfl
theorem l414_29 : lkc cd414 29 = s414_29 := rfl
theorem l414_44 : lkc cd414 44 = s414_44 := rfl
theorem l414_58 : lkc cd414 58 = s414_58 := rfl
theorem l414_72 : lkc cd414 72 = s414_72 := rfl
theorem l414_75 : lkc cd414 75 = s414_75 := rfl
theorem k414 : chkM 414 16 true cd414 = true := by decide +kernel
/- FontHouseModel.wrapped(I)J -/
def s415_0 : List E := [(.iload_n 1, 0, [1]), (.ifCond .ne 11, 0, [12]), (.aload_n 0, 0, [0]), (.getfield 1065, 0, [16, 117, 0]), (.i2l, 0, []), (.goto 55, 0, [64])]
def s415_12 : List E := [(.iload_n 1, 0, [1]), (.iconst 1, 1, []), (.if_icmp .ne 11, 0, [25]), (.aload_n 0, 0, [0]), (.getfield 1068, 0, [16, 118, 0]), (.i2l, 0, []), (.goto 42, 0, [64])]
def s415_25 : List E := [(.iload_n 1, 0, [1]), (.iconst 2, 2, []), (.if_icmp .ne 10, 0, [37]), (.aload_n 0, 0, [0]), (.getfield 1071, 0, [16, 119, 5]), (.goto 30, 0, [64])]
def s415_37 : List E := [(.iload_n 1, 0, [1]), (.iconst 3, 3, []), (.if_icmp .ne 10, 0, [49]), (.aload_n 0, 0, [0]), (.getfield 1075, 0, [16, 120, 5]), (.goto 18, 0, [64])]
def s415_49 : List E := [(.iload_n 1, 0, [1]), (.iconst 4, 4, []), (.if_icmp .ne 10, 0, [61]), (.aload_n 0, 0, [0]), (.getfield 1078, 0, [16, 121, 5]), (.goto 6, 0, [64])]
def s415_61 : List E := [(.ldc2_w 771, -2, []), (.nop, 0, [64])]
def s415_64 : List E := [(.lreturn, 0, [])]
def cd415 : List (Nat × List E) := [(0, s415_0), (12, s415_12), (25, s415_25), (37, s415_37), (49, s415_49), (61, s415_61), (64, s415_64)]
theorem l415_0 : lkc cd415 0 = s415_0 := rfl
theorem l415_12 : lkc cd415 12 = s415_12 := rfl
theorem l415_25 : lkc cd415 25 = s415_25 := rfl
theorem l415_37 : lkc cd415 37 = s415_37 := rfl
theorem l415_49 : lkc cd415 49 = s415_49 := rfl
theorem l415_61 : lkc cd415 61 = s415_61 := rfl
theorem l415_64 : lkc cd415 64 = s415_64 := rfl
theorem k415 : chkM 415 16 true cd415 = true := by decide +kernel
/- FontHouseModel.pack(IIIZ)I -/
def s416_0 : List E := [(.iload_n 2, 0, [2]), (.invokestatic 329, 0, [229, 237, 0, 3, 0]), (.ifCond .ne 5, 0, [9]), (.iconst (-1), -1, []), (.ireturn, 0, [])]
def s416_9 : List E := [(.iload_n 1, 0, [1]), (.iconst 1, 1, []), (.if_icmp .lt 18, 0, [29]), (.iload_n 1, 0, [1]), (.bipush 15, 15, []), (.if_icmp .gt 12, 0, [29]), (.iload_n 3, 0, [3]), (.ifCond .lt 8, 0, [29]), (.iload_n 3, 0, [3]), (.iconst 2, 2, []), (.if_icmp .le 6, 0, [32]), (.nop, 0, [29])]
def s416_29 : List E := [(.bipush (-2), -2, []), (.ireturn, 0, [])]
def s416_32 : List E := [(.iconst 0, 0, []), (.istore 5, 0, [5]), (.iconst 0, 0, []), (.istore 6, 0, [6]), (.nop, 0, [38])]
def s416_38 : List E := [(.iload 6, 0, [6]), (.iconst 4, 4, []), (.if_icmp .ge 81, 0, [122]), (.iload_n 1, 0, [1]), (.iload 6, 0, [6]), (.ishr, 0, []), (.iconst 1, 1, []), (.iand, 0, []), (.iconst 1, 1, []), (.if_icmp .ne 65, 0, [116]), (.aload_n 0, 0, [0]), (.getfield 132, 38, [16, 53, 89, 1]), (.iload 6, 0, [6]), (.baload, 0, [44]), (.ifCond .eq 49, 0, [110]), (.aload_n 0, 0, [0]), (.iload 6, 0, [6]), (.invokevirtual 1149, 0, [417, 16, 33, 212, 0, 0, 0]), (.ifCond .eq 40, 0, [110]), (.aload_n 0, 0, [0]), (.iload 6, 0, [6]), (.ldc2_w 666, 1735162214, []), (.invokevirtual 636, 0, [320, 16, 33, 233, 0, 0, 5, 0]), (.ifCond .lt 7, 0, [89]), (.iconst 1, 1, []), (.goto 4, 0, [90])]
def s416_89 : List E := [(.iconst 0, 0, []), (.nop, 0, [90])]
def s416_90 : List E := [(.aload_n 0, 0, [0]), (.iload 6, 0, [6]), (.ldc2_w 670, 1819239265, []), (.invokevirtual 636, 0, [320, 16, 33, 233, 0, 0, 5, 0]), (.ifCond .lt 7, 0, [106]), (.iconst 1, 1, []), (.goto 4, 0, [107])]
def s416_106 : List E := [(.iconst 0, 0, []), (.nop, 0, [107])]
def s416_107 : List E := [(.if_icmp .eq 6, 0, [113]), (.nop, 0, [110])]
def s416_110 : List E := [(.bipush (-3), -3, []), (.ireturn, 0, [])]
def s416_113 : List E := [(.iinc 5 1, 1, [5]), (.nop, 0, [116])]
def s416_116 : List E := [(.iinc 6 1, 1, [6]), (.goto (-81), 0, [38])]
def s416_122 : List E := [(.aload_n 0, 0, [0]), (.iload_n 1, 0, [1]), (.invokevirtual 1152, 0, [418, 16, 33, 206, 0, 3, 0]), (.ifCond .ne 6, 0, [133]), (.bipush (-4), -4, []), (.ireturn, 0, [])]
def s416_133 : List E := [(.aload_n 0, 0, [0]), (.iload 4, 0, [4]), (.invokevirtual 1155, 0, [421, 16, 33, 8, 0, 100, 3]), (.aload_n 0, 0, [0]), (.getfield 599, 0, [16, 29, 0]), (.sipush 16000, 16000, []), (.if_icmp .le 6, 0, [152]), (.bipush (-4), -4, []), (.ireturn, 0, [])]
def s416_152 : List E := [(.aload_n 0, 0, [0]), (.iload_n 3, 0, [3]), (.invokevirtual 608, 0, [286, 16, 33, 91, 0, 100, 0]), (.aload_n 0, 0, [0]), (.getfield 519, 0, [16, 32, 3]), (.ifCond .eq 6, 0, [167]), (.bipush (-4), -4, []), (.ireturn, 0, [])]
def s416_167 : List E := [(.iload_n 1, 0, [1]), (.invokestatic 1158, 0, [436, 237, 0, 0, 0]), (.istore 6, 0, [6]), (.aload_n 0, 0, [0]), (.iconst 0, 0, []), (.putfield 735, 0, [16, 68, 0]), (.aload_n 0, 0, [0]), (.ldc2_w 1161, 2001684018, []), (.invokevirtual 741, 0, [341, 16, 33, 212, 0, 100, 5]), (.aload_n 0, 0, [0]), (.iload 6, 0, [6]), (.ifCond .ge 9, 0, [197]), (.ldc2_w 698, 1953784678, []), (.goto 11, 0, [205])]
def s416_197 : List E := [(.aload_n 0, 0, [0]), (.getfield 135, 39, [16, 54, 81, 1]), (.iload 6, 0, [6]), (.iaload, 0, []), (.i2l, 0, []), (.nop, 0, [205])]
def s416_205 : List E := [(.invokevirtual 741, 0, [341, 16, 33, 212, 0, 100, 5]), (.aload_n 0, 0, [0]), (.lconst 0, 0, []), (.invokevirtual 741, 0, [341, 16, 33, 212, 0, 100, 5]), (.aload_n 0, 0, [0]), (.aload_n 0, 0, [0]), (.getfield 1081, 0, [16, 128, 0]), (.iconst 2, 2, []), (.invokevirtual 738, 0, [342, 16, 33, 234, 0, 100, 0, 0]), (.aload_n 0, 0, [0]), (.iconst 0, 0, []), (.iconst 2, 2, []), (.invokevirtual 738, 0, [342, 16, 33, 234, 0, 100, 0, 0]), (.aload_n 0, 0, [0]), (.iload_n 1, 0, [1]), (.iload 6, 0, [6]), (.ifCond .ge 7, 0, [239]), (.iconst 1, 1, []), (.goto 4, 0, [240])]
def s416_239 : List E := [(.iconst 0, 0, []), (.nop, 0, [240])]
def s416_240 : List E := [(.ldc2_w 1090, 1146308935, []), (.invokevirtual 752, 0, [339, 16, 33, 229, 0, 0, 5, 3, 0]), (.i2l, 0, []), (.lstore 7, 0, [7]), (.aload_n 0, 0, [0]), (.lload 7, 0, [7]), (.invokevirtual 741, 0, [341, 16, 33, 212, 0, 100, 5]), (.aload_n 0, 0, [0]), (.aload_n 0, 0, [0]), (.getfield 515, 0, [16, 31, 0]), (.bipush 8, 8, []), (.idiv, 0, []), (.i2l, 0, []), (.invokevirtual 741, 0, [341, 16, 33, 212, 0, 100, 5]), (.aload_n 0, 0, [0]), (.iconst 1, 1, []), (.iconst 2, 2, []), (.invokevirtual 738, 0, [342, 16, 33, 234, 0, 100, 0, 0]), (.aload_n 0, 0, [0]), (.iconst 0, 0, []), (.iconst 2, 2, []), (.invokevirtual 738, 0, [342, 16, 33, 234, 0, 100, 0, 0]), (.iconst 0, 0, []), (.istore 9, 0, [9]), (.nop, 0, [282])]
def s416_282 : List E := [(.iload 9, 0, [9]), (.iconst 5, 5, []), (.if_icmp .ge 14, 0, [299]), (.aload_n 0, 0, [0]), (.lconst 0, 0, []), (.invokevirtual 741, 0, [341, 16, 33, 212, 0, 100, 5]), (.iinc 9 1, 1, [9]), (.goto (-14), 0, [282])]
def s416_299 : List E := [(.aload_n 0, 0, [0]), (.invokevirtual 1163, 0, [437, 16, 33, 188, 0, 100]), (.iload 6, 0, [6]), (.ifCond .ge 121, 0, [426]), (.aload_n 0, 0, [0]), (.ldc2_w 646, 65536, []), (.invokevirtual 741, 0, [341, 16, 33, 212, 0, 100, 5]), (.aload_n 0, 0, [0]), (.iload 5, 0, [5]), (.invokevirtual 1166, 0, [441, 16, 33, 213, 0, 100, 0]), (.iconst 0, 0, []), (.istore 9, 0, [9]), (.nop, 0, [324])]
def s416_324 : List E := [(.iload 9, 0, [9]), (.iconst 4, 4, []), (.if_icmp .ge 99, 0, [426]), (.iload_n 1, 0, [1]), (.iload 9, 0, [9]), (.ishr, 0, []), (.iconst 1, 1, []), (.iand, 0, []), (.iconst 1, 1, []), (.if_icmp .ne 83, 0, [420]), (.aload_n 0, 0, [0]), (.aload_n 0, 0, [0]), (.iload 9, 0, [9]), (.invokevirtual 1149, 0, [417, 16, 33, 212, 0, 0, 0]), (.invokevirtual 1166, 0, [441, 16, 33, 213, 0, 100, 0]), (.aload_n 0, 0, [0]), (.aload_n 0, 0, [0]), (.getfield 135, 39, [16, 54, 81, 1]), (.iload 9, 0, [9]), (.iaload, 0, []), (.i2l, 0, []), (.invokevirtual 741, 0, [341, 16, 33, 212, 0, 100, 5]), (.iconst 0, 0, []), (.istore 10, 0, [10]), (.nop, 0, [365])]
def s416_365 : List E := [(.iload 10, 0, [10]), (.aload_n 0, 0, [0]), (.getfield 138, 40, [16, 55, 81, 1]), (.iload 9, 0, [9]), (.iaload, 0, []), (.if_icmp .ge 46, 0, [420]), (.aload_n 0, 0, [0]), (.getfield 141, 41, [16, 56, 87, 1]), (.bipush 16, 16, []), (.iload 9, 0, [9]), (.imul, 0, []), (.iload 10, 0, [10]), (.iadd, 0, []), (.laload, 0, []), (.ldc2_w 1090, 1146308935, []), (.lcmp, 0, []), (.ifCond .eq 20, 0, [414]), (.aload_n 0, 0, [0]), (.aload_n 0, 0, [0]), (.getfield 292, 91, [16, 135, 81, 1]), (.bipush 16, 16, []), (.iload 9, 0, [9]), (.imul, 0, []), (.iload 10, 0, [10]), (.iadd, 0, []), (.iaload, 0, []), (.invokevirtual 1166, 0, [441, 16, 33, 213, 0, 100, 0]), (.nop, 0, [414])]
def s416_414 : List E := [(.iinc 10 1, 1, [10]), (.goto (-52), 0, [365])]
def s416_420 : List E := [(.iinc 9 1, 1, [9]), (.goto (-99), 0, [324])]
def s416_426 : List E := [(.iconst 0, 0, []), (.istore 9, 0, [9]), (.nop, 0, [429])]
def s416_429 : List E := [(.iload 9, 0, [9]), (.aload_n 0, 0, [0]), (.getfield 515, 0, [16, 31, 0]), (.bipush 8, 8, []), (.idiv, 0, []), (.if_icmp .ge 21, 0, [459]), (.aload_n 0, 0, [0]), (.aload_n 0, 0, [0]), (.getfield 78, 21, [16, 30, 83, 1]), (.iload 9, 0, [9]), (.baload, 0, [41]), (.iconst 1, 1, []), (.invokevirtual 738, 0, [342, 16, 33, 234, 0, 100, 0, 0]), (.iinc 9 1, 1, [9]), (.goto (-27), 0, [429])]
def s416_459 : List E := [(.aload_n 0, 0, [0]), (.getfield 735, 0, [16, 68, 0]), (.iconst 3, 3, []), (.iand, 0, []), (.ifCond .le 12, 0, [477]), (.aload_n 0, 0, [0]), (.iconst 0, 0, []), (.iconst 1, 1, []), (.invokevirtual 738, 0, [342, 16, 33, 234, 0, 100, 0, 0]), (.goto (-15), 0, [459])]
def s416_477 : List E := [(.aload_n 0, 0, [0]), (.getfield 735, 0, [16, 68, 0]), (.sipush 16000, 16000, []), (.if_icmp .le 6, 0, [490]), (.bipush (-4), -4, []), (.ireturn, 0, [])]
def s416_490 : List E := [(.iconst 0, 0, []), (.istore 9, 0, [9]), (.nop, 0, [493])]
def s416_493 : List E := [(.iload 9, 0, [9]), (.iconst 4, 4, []), (.if_icmp .ge 33, 0, [529]), (.aload_n 0, 0, [0]), (.getfield 169, 50, [16, 67, 83, 1]), (.bipush 8, 8, []), (.iload 9, 0, [9]), (.iadd, 0, []), (.aload_n 0, 0, [0]), (.getfield 735, 0, [16, 68, 0]), (.bipush 24, 24, []), (.bipush 8, 8, []), (.iload 9, 0, [9]), (.imul, 0, []), (.isub, 0, []), (.ishr, 0, []), (.i2b, 0, []), (.bastore, 0, [41]), (.iinc 9 1, 1, [9]), (.goto (-33), 0, [493])]
def s416_529 : List E := [(.aload_n 0, 0, [0]), (.iload 5, 0, [5]), (.aload_n 0, 0, [0]), (.getfield 599, 0, [16, 29, 0]), (.i2l, 0, []), (.aload_n 0, 0, [0]), (.getfield 515, 0, [16, 31, 0]), (.bipush 8, 8, []), (.idiv, 0, []), (.i2l, 0, []), (.lload 7, 0, [7]), (.invokevirtual 1169, 0, [442, 16, 33, 229, 0, 100, 5, 5, 5, 0]), (.aload_n 0, 0, [0]), (.iload_n 2, 0, [2]), (.invokevirtual 765, 0, [347, 16, 33, 235, 0, 0, 0]), (.ireturn, 0, [])]
def cd416 : List (Nat × List E) := [(0, s416_0), (9, s416_9), (29, s416_29), (32, s416_32), (38, s416_38), (89, s416_89), (90, s416_90), (106, s416_106), (107, s416_107), (110, s416_110), (113, s416_113), (116, s416_116), (122, s416_122), (133, s416_133), (152, s416_152), (167, s416_167), (197, s416_197), (205, s416_205), (239, s416_239), (240, s416_240), (282, s416_282), (299, s416_299), (324, s416_324), (365, s416_365), (414, s416_414), (420, s416_420), (426, s416_426), (429, s416_429), (459, s416_459), (477, s416_477), (490, s416_490), (493, s416_493), (529, s416_529)]
theorem l416_0 : lkc cd416 0 = s416_0 := rfl
theorem l416_9 : lkc cd416 9 = s416_9 := rfl
theorem l416_29 : lkc cd416 29 = s416_29 := rfl
theorem l416_32 : lkc cd416 32 = s416_32 := rfl
theorem l416_38 : lkc cd416 38 = s416_38 := rfl
theorem l416_89 : lkc cd416 89 = s416_89 := rfl
theorem l416_90 : lkc cd416 90 = s416_90 := rfl
theorem l416_106 : lkc cd416 106 = s416_106 := rfl
theorem l416_107 : lkc cd416 107 = s416_107 := rfl
theorem l416_110 : lkc cd416 110 = s416_110 := rfl
theorem l416_113 : lkc cd416 113 = s416_113 := rfl
theorem l416_116 : lkc cd416 116 = s416_116 := rfl
theorem l416_122 : lkc cd416 122 = s416_122 := rfl
theorem l416_133 : lkc cd416 133 = s416_133 := rfl
theorem l416_152 : lkc cd416 152 = s416_152 := rfl
theorem l416_167 : lkc cd416 167 = s416_167 := rfl
theorem l416_197 : lkc cd416 197 = s416_197 := rfl
theorem l416_205 : lkc cd416 205 = s416_205 := rfl
theorem l416_239 : lkc cd416 239 = s416_239 := rfl
theorem l416_240 : lkc cd416 240 = s416_240 := rfl
theorem l416_282 : lkc cd416 282 = s416_282 := rfl
theorem l416_299 : lkc cd416 299 = s416_299 := rfl
theorem l416_324 : lkc cd416 324 = s416_324 := rfl
theorem l416_365 : lkc cd416 365 = s416_365 := rfl
theorem l416_414 : lkc cd416 414 = s416_414 := rfl
theorem l416_420 : lkc cd416 420 = s416_420 := rfl
theorem l416_426 : lkc cd416 426 = s416_426 := rfl
theorem l416_429 : lkc cd416 429 = s416_429 := rfl
theorem l416_459 : lkc cd416 459 = s416_459 := rfl
theorem l416_477 : lkc cd416 477 = s416_477 := rfl
theorem l416_490 : lkc cd416 490 = s416_490 := rfl
theorem l416_493 : lkc cd416 493 = s416_493 := rfl
theorem l416_529 : lkc cd416 529 = s416_529 := rfl
theorem k416 : chkM 416 16 true cd416 = true := by decide +kernel
/- FontHouseModel.withoutSign(I)I -/
def s417_0 : List E := [(.aload_n 0, 0, [0]), (.getfield 138, 40, [16, 55, 81, 1]), (.iload_n 1, 0, [1]), (.iaload, 0, []), (.aload_n 0, 0, [0]), (.iload_n 1, 0, [1]), (.ldc2_w 1090, 1146308935, []), (.invokevirtual 636, 0, [320, 16, 33, 8, 0, 0, 5, 0]), (.ifCond .lt 7, 0, [21]), (.iconst 1, 1, []), (.goto 4, 0, [22])]
def s417_21 : List E := [(.iconst 0, 0, []), (.nop, 0, [22])]
def s417_22 : List E := [(.isub, 0, []), (.ireturn, 0, [])]
def cd417 : List (Nat × List E) := [(0, s417_0), (21, s417_21), (22, s417_22)]
theorem l417_0 : lkc cd417 0 = s417_0 := rfl
theorem l417_21 : lkc cd417 21 = s417_21 := rfl
theorem l417_22 : lkc cd417 22 = s417_22 := rfl
theorem k417 : chkM 417 16 true cd417 = true := by decide +kernel
/- FontHouseModel.gather(I)Z -/
def s418_0 : List E := [(.aload_n 0, 0, [0]), (.iconst 0, 0, []), (.putfield 1081, 0, [16, 128, 0]), (.iconst 0, 0, []), (.istore_n 2, 0, [2]), (.nop, 0, [7])]
def s418_7 : List E := [(.iload_n 2, 0, [2]), (.iconst 4, 4, []), (.if_icmp .ge 271, 0, [280]), (.iconst 0, 0, []), (.istore_n 3, 0, [3]), (.nop, 0, [14])]
def s418_14 : List E := [(.iload_n 1, 0, [1]), (.iload_n 2, 0, [2]), (.ishr, 0, []), (.iconst 1, 1, []), (.iand, 0, []), (.iconst 1, 1, []), (.if_icmp .ne 254, 0, [274]), (.iload_n 3, 0, [3]), (.aload_n 0, 0, [0]), (.getfield 138, 40, [16, 55, 81, 1]), (.iload_n 2, 0, [2]), (.iaload, 0, []), (.if_icmp .ge 244, 0, [274]), (.aload_n 0, 0, [0]), (.getfield 141, 41, [16, 56, 87, 1]), (.bipush 16, 16, []), (.iload_n 2, 0, [2]), (.imul, 0, []), (.iload_n 3, 0, [3]), (.iadd, 0, []), (.laload, 0, []), (.lstore 4, 0, [4]), (.aload_n 0, 0, [0]), (.getfield 292, 91, [16, 135, 81, 1]), (.bipush 16, 16, []), (.iload_n 2, 0, [2]), (.imul, 0, []), (.iload_n 3, 0, [3]), (.iadd, 0, []), (.iconst (-1), -1, []), (.iastore, 0, []), (.lload 4, 0, [4]), (.ldc2_w 666, 1735162214, []), (.lcmp, 0, []), (.ifCond .ne 93, 0, [157]), (.aload_n 0, 0, [0]), (.iload_n 2, 0, [2]), (.ldc2_w 670, 1819239265, []), (.invokevirtual 636, 0, [320, 16, 33, 8, 0, 0, 5, 0]), (.istore 6, 0, [6]), (.aload_n 0, 0, [0]), (.aload_n 0, 0, [0]), (.getfield 144, 42, [16, 57, 81, 1]), (.bipush 16, 16, []), (.iload_n 2, 0, [2]), (.imul, 0, []), (.iload_n 3, 0, [3]), (.iadd, 0, []), (.iaload, 0, []), (.aload_n 0, 0, [0]), (.getfield 144, 42, [16, 57, 81, 1]), (.bipush 16, 16, []), (.iload_n 2, 0, [2]), (.imul, 0, []), (.iload 6, 0, [6]), (.iadd, 0, []), (.iaload, 0, []), (.invokevirtual 1084, 0, [419, 16, 33, 9, 0, 0, 0, 0]), (.istore 7, 0, [7]), (.iload 7, 0, [7]), (.ifCond .ge 33, 0, [141]), (.aload_n 0, 0, [0]), (.getfield 1081, 0, [16, 128, 0]), (.bipush 38, 38, []), (.if_icmp .le 5, 0, [122]), (.iconst 0, 0, []), (.ireturn, 0, [1])]
def s418_122 : List E := [(.aload_n 0, 0, [0]), (.getfield 1081, 0, [16, 128, 0]), (.istore 7, 0, [7]), (.aload_n 0, 0, [0]), (.iload_n 2, 0, [2]), (.iload_n 3, 0, [3]), (.invokevirtual 1087, 0, [420, 16, 33, 10, 0, 100, 0, 0]), (.aload_n 0, 0, [0]), (.iload_n 2, 0, [2]), (.iload 6, 0, [6]), (.invokevirtual 1087, 0, [420, 16, 33, 10, 0, 100, 0, 0]), (.nop, 0, [141])]
def s418_141 : List E := [(.aload_n 0, 0, [0]), (.getfield 292, 91, [16, 135, 81, 1]), (.bipush 16, 16, []), (.iload_n 2, 0, [2]), (.imul, 0, []), (.iload_n 3, 0, [3]), (.iadd, 0, []), (.iload 7, 0, [7]), (.iastore, 0, []), (.goto 114, 0, [268])]
def s418_157 : List E := [(.lload 4, 0, [4]), (.ldc2_w 670, 1819239265, []), (.lcmp, 0, []), (.ifCond .ne 37, 0, [200]), (.aload_n 0, 0, [0]), (.getfield 292, 91, [16, 135, 81, 1]), (.bipush 16, 16, []), (.iload_n 2, 0, [2]), (.imul, 0, []), (.iload_n 3, 0, [3]), (.iadd, 0, []), (.aload_n 0, 0, [0]), (.getfield 292, 91, [16, 135, 81, 1]), (.bipush 16, 16, []), (.iload_n 2, 0, [2]), (.imul, 0, []), (.aload_n 0, 0, [0]), (.iload_n 2, 0, [2]), (.ldc2_w 666, 1735162214, []), (.invokevirtual 636, 0, [320, 16, 33, 8, 0, 0, 5, 0]), (.iadd, 0, []), (.iaload, 0, []), (.iconst 1, 1, []), (.iadd, 0, []), (.iastore, 0, []), (.goto 71, 0, [268])]
def s418_200 : List E := [(.lload 4, 0, [4]), (.ldc2_w 1090, 1146308935, []), (.lcmp, 0, []), (.ifCond .eq 62, 0, [268]), (.aload_n 0, 0, [0]), (.aload_n 0, 0, [0]), (.getfield 144, 42, [16, 57, 81, 1]), (.bipush 16, 16, []), (.iload_n 2, 0, [2]), (.imul, 0, []), (.iload_n 3, 0, [3]), (.iadd, 0, []), (.iaload, 0, []), (.iconst (-1), -1, []), (.invokevirtual 1084, 0, [419, 16, 33, 9, 0, 0, 0, 0]), (.istore 6, 0, [6]), (.iload 6, 0, [6]), (.ifCond .ge 26, 0, [255]), (.aload_n 0, 0, [0]), (.getfield 1081, 0, [16, 128, 0]), (.bipush 39, 39, []), (.if_icmp .le 5, 0, [243]), (.iconst 0, 0, []), (.ireturn, 0, [1])]
def s418_243 : List E := [(.aload_n 0, 0, [0]), (.getfield 1081, 0, [16, 128, 0]), (.istore 6, 0, [6]), (.aload_n 0, 0, [0]), (.iload_n 2, 0, [2]), (.iload_n 3, 0, [3]), (.invokevirtual 1087, 0, [420, 16, 33, 10, 0, 100, 0, 0]), (.nop, 0, [255])]
def s418_255 : List E := [(.aload_n 0, 0, [0]), (.getfield 292, 91, [16, 135, 81, 1]), (.bipush 16, 16, []), (.iload_n 2, 0, [2]), (.imul, 0, []), (.iload_n 3, 0, [3]), (.iadd, 0, []), (.iload 6, 0, [6]), (.iastore, 0, []), (.nop, 0, [268])]
def s418_268 : List E := [(.iinc 3 1, 1, [3]), (.goto (-257), 0, [14])]
def s418_274 : List E := [(.iinc 2 1, 1, [2]), (.goto (-270), 0, [7])]
def s418_280 : List E := [(.iconst 1, 1, []), (.ireturn, 0, [1])]
def cd418 : List (Nat × List E) := [(0, s418_0), (7, s418_7), (14, s418_14), (122, s418_122), (141, s418_141), (157, s418_157), (200, s418_200), (243, s418_243), (255, s418_255), (268, s418_268), (274, s418_274), (280, s418_280)]
theorem l418_0 : lkc cd418 0 = s418_0 := rfl
theorem l418_7 : lkc cd418 7 = s418_7 := rfl
theorem l418_14 : lkc cd418 14 = s418_14 := rfl
theorem l418_122 : lkc cd418 122 = s418_122 := rfl
theorem l418_141 : lkc cd418 141 = s418_141 := rfl
theorem l418_157 : lkc cd418 157 = s418_157 := rfl
theorem l418_200 : lkc cd418 200 = s418_200 := rfl
theorem l418_243 : lkc cd418 243 = s418_243 := rfl
theorem l418_255 : lkc cd418 255 = s418_255 := rfl
theorem l418_268 : lkc cd418 268 = s418_268 := rfl
theorem l418_274 : lkc cd418 274 = s418_274 := rfl
theorem l418_280 : lkc cd418 280 = s418_280 := rfl
theorem k418 : chkM 418 16 true cd418 = true := by decide +kernel
/- FontHouseModel.entryBy(II)I -/
def s419_0 : List E := [(.iconst 0, 0, []), (.istore_n 3, 0, [3]), (.nop, 0, [2])]
def s419_2 : List E := [(.iload_n 3, 0, [3]), (.aload_n 0, 0, [0]), (.getfield 1081, 0, [16, 128, 0]), (.if_icmp .ge 47, 0, [54]), (.aload_n 0, 0, [0]), (.getfield 286, 89, [16, 133, 81, 1]), (.iload_n 3, 0, [3]), (.iaload, 0, []), (.iload_n 1, 0, [1]), (.if_icmp .ne 31, 0, [48]), (.iload_n 2, 0, [2]), (.ifCond .lt 25, 0, [46]), (.iload_n 3, 0, [3]), (.iconst 1, 1, []), (.iadd, 0, []), (.aload_n 0, 0, [0]), (.getfield 1081, 0, [16, 128, 0]), (.if_icmp .ge 17, 0, [48]), (.aload_n 0, 0, [0]), (.getfield 286, 89, [16, 133, 81, 1]), (.iload_n 3, 0, [3]), (.iconst 1, 1, []), (.iadd, 0, []), (.iaload, 0, []), (.iload_n 2, 0, [2]), (.if_icmp .ne 5, 0, [48]), (.nop, 0, [46])]
def s419_46 : List E := [(.iload_n 3, 0, [3]), (.ireturn, 0, [])]
def s419_48 : List E := [(.iinc 3 1, 1, [3]), (.goto (-49), 0, [2])]
def s419_54 : List E := [(.iconst (-1), -1, []), (.ireturn, 0, [])]
def cd419 : List (Nat × List E) := [(0, s419_0), (2, s419_2), (46, s419_46), (48, s419_48), (54, s419_54)]
theorem l419_0 : lkc cd419 0 = s419_0 := rfl
theorem l419_2 : lkc cd419 2 = s419_2 := rfl
theorem l419_46 : lkc cd419 46 = s419_46 := rfl
theorem l419_48 : lkc cd419 48 = s419_48 := rfl
theorem l419_54 : lkc cd419 54 = s419_54 := rfl
theorem k419 : chkM 419 16 true cd419 = true := by decide +kernel
/- FontHouseModel.addEntry(II)V -/
def s420_0 : List E := [(.aload_n 0, 0, [0]), (.getfield 274, 85, [16, 129, 87, 1]), (.aload_n 0, 0, [0]), (.getfield 1081, 0, [16, 128, 0]), (.aload_n 0, 0, [0]), (.getfield 141, 41, [16, 56, 87, 1]), (.bipush 16, 16, []), (.iload_n 1, 0, [1]), (.imul, 0, []), (.iload_n 2, 0, [2]), (.iadd, 0, []), (.laload, 0, []), (.lastore, 0, []), (.aload_n 0, 0, [0]), (.getfield 286, 89, [16, 133, 81, 1]), (.aload_n 0, 0, [0]), (.getfield 1081, 0, [16, 128, 0]), (.aload_n 0, 0, [0]), (.getfield 144, 42, [16, 57, 81, 1]), (.bipush 16, 16, []), (.iload_n 1, 0, [1]), (.imul, 0, []), (.iload_n 2, 0, [2]), (.iadd, 0, []), (.iaload, 0, []), (.iastore, 0, []), (.aload_n 0, 0, [0]), (.getfield 289, 90, [16, 134, 81, 1]), (.aload_n 0, 0, [0]), (.getfield 1081, 0, [16, 128, 0]), (.iload_n 1, 0, [1]), (.iastore, 0, []), (.aload_n 0, 0, [0]), (.dup, 0, []), (.getfield 1081, 0, [16, 128, 0]), (.iconst 1, 1, []), (.iadd, 0, []), (.putfield 1081, 0, [16, 128, 0]), (.return_, 0, [])]
def cd420 : List (Nat × List E) := [(0, s420_0)]
theorem l420_0 : lkc cd420 0 = s420_0 := rfl
theorem k420 : chkM 420 16 true cd420 = true := by decide +kernel
/- FontHouseModel.inside(Z)V -/
def s421_0 : List E := [(.aload_n 0, 0, [0]), (.iconst 0, 0, []), (.putfield 599, 0, [16, 29, 0]), (.iconst 0, 0, []), (.istore_n 2, 0, [2]), (.nop, 0, [7])]
def s421_7 : List E := [(.iload_n 2, 0, [2]), (.aload_n 0, 0, [0]), (.getfield 1081, 0, [16, 128, 0]), (.if_icmp .ge 276, 0, [288]), (.aload_n 0, 0, [0]), (.getfield 289, 90, [16, 134, 81, 1]), (.iload_n 2, 0, [2]), (.iaload, 0, []), (.istore_n 3, 0, [3]), (.aload_n 0, 0, [0]), (.getfield 274, 85, [16, 129, 87, 1]), (.iload_n 2, 0, [2]), (.laload, 0, []), (.lstore 4, 0, [4]), (.aload_n 0, 0, [0]), (.getfield 599, 0, [16, 29, 0]), (.istore 6, 0, [6]), (.aload_n 0, 0, [0]), (.getfield 277, 86, [16, 130, 81, 1]), (.iload_n 2, 0, [2]), (.iconst 0, 0, []), (.iastore, 0, []), (.aload_n 0, 0, [0]), (.getfield 280, 87, [16, 131, 87, 1]), (.iload_n 2, 0, [2]), (.aload_n 0, 0, [0]), (.getfield 126, 36, [16, 51, 81, 1]), (.aload_n 0, 0, [0]), (.getfield 286, 89, [16, 133, 81, 1]), (.iload_n 2, 0, [2]), (.iaload, 0, []), (.iaload, 0, []), (.i2l, 0, []), (.lastore, 0, []), (.lload 4, 0, [4]), (.ldc2_w 666, 1735162214, []), (.lcmp, 0, []), (.ifCond .ne 84, 0, [151]), (.aload_n 0, 0, [0]), (.iload_n 3, 0, [3]), (.iconst 1, 1, []), (.invokevirtual 884, 0, [378, 16, 33, 35, 0, 3, 3, 0]), (.istore 7, 0, [7]), (.iload 7, 0, [7]), (.ifCond .eq 39, 0, [119]), (.aload_n 0, 0, [0]), (.iload_n 3, 0, [3]), (.invokevirtual 1121, 0, [422, 16, 33, 8, 0, 100, 0]), (.aload_n 0, 0, [0]), (.getfield 599, 0, [16, 29, 0]), (.iload 6, 0, [6]), (.isub, 0, []), (.sipush 12000, 12000, []), (.if_icmp .gt 18, 0, [116]), (.aload_n 0, 0, [0]), (.iload_n 3, 0, [3]), (.invokevirtual 1124, 0, [432, 16, 33, 48, 0, 0, 0]), (.sipush 12000, 12000, []), (.if_icmp .gt 7, 0, [116]), (.iconst 1, 1, []), (.goto 4, 0, [117])]
def s421_116 : List E := [(.iconst 0, 0, []), (.nop, 0, [117])]
def s421_117 : List E := [(.istore 7, 0, [7]), (.nop, 0, [119])]
def s421_119 : List E := [(.iload 7, 0, [7]), (.ifCond .ne 27, 0, [148]), (.aload_n 0, 0, [0]), (.iload 6, 0, [6]), (.putfield 599, 0, [16, 29, 0]), (.aload_n 0, 0, [0]), (.getfield 277, 86, [16, 130, 81, 1]), (.iload_n 2, 0, [2]), (.iconst 3, 3, []), (.iastore, 0, []), (.aload_n 0, 0, [0]), (.aload_n 0, 0, [0]), (.getfield 286, 89, [16, 133, 81, 1]), (.iload_n 2, 0, [2]), (.iaload, 0, []), (.iconst 0, 0, []), (.invokevirtual 1127, 0, [433, 16, 33, 184, 0, 100, 3, 0]), (.nop, 0, [148])]
def s421_148 : List E := [(.goto 120, 0, [268])]
def s421_151 : List E := [(.lload 4, 0, [4]), (.ldc2_w 670, 1819239265, []), (.lcmp, 0, []), (.ifCond .ne 41, 0, [198]), (.aload_n 0, 0, [0]), (.getfield 277, 86, [16, 130, 81, 1]), (.iload_n 2, 0, [2]), (.aload_n 0, 0, [0]), (.getfield 277, 86, [16, 130, 81, 1]), (.iload_n 2, 0, [2]), (.iconst 1, 1, []), (.isub, 0, []), (.iaload, 0, []), (.iastore, 0, []), (.aload_n 0, 0, [0]), (.getfield 277, 86, [16, 130, 81, 1]), (.iload_n 2, 0, [2]), (.iaload, 0, []), (.iconst 3, 3, []), (.if_icmp .ne 87, 0, [268]), (.aload_n 0, 0, [0]), (.aload_n 0, 0, [0]), (.getfield 286, 89, [16, 133, 81, 1]), (.iload_n 2, 0, [2]), (.iaload, 0, []), (.iconst 0, 0, []), (.invokevirtual 1127, 0, [433, 16, 33, 184, 0, 100, 3, 0]), (.goto 73, 0, [268])]
def s421_198 : List E := [(.lload 4, 0, [4]), (.ldc2_w 668, 1752003704, []), (.lcmp, 0, []), (.ifCond .ne 15, 0, [219]), (.iload_n 1, 0, [1]), (.ifCond .eq 11, 0, [219]), (.aload_n 0, 0, [0]), (.iload_n 3, 0, [3]), (.invokevirtual 1130, 0, [434, 16, 33, 10, 0, 0, 0]), (.goto 4, 0, [220])]
def s421_219 : List E := [(.iconst 0, 0, []), (.nop, 0, [220])]
def s421_220 : List E := [(.istore 7, 0, [7]), (.iload 7, 0, [7]), (.ifCond .le 20, 0, [244]), (.aload_n 0, 0, [0]), (.getfield 277, 86, [16, 130, 81, 1]), (.iload_n 2, 0, [2]), (.iconst 1, 1, []), (.iastore, 0, []), (.aload_n 0, 0, [0]), (.iload_n 3, 0, [3]), (.iload 7, 0, [7]), (.invokevirtual 1133, 0, [435, 16, 33, 11, 0, 100, 0, 0]), (.goto 27, 0, [268])]
def s421_244 : List E := [(.aload_n 0, 0, [0]), (.aload_n 0, 0, [0]), (.getfield 286, 89, [16, 133, 81, 1]), (.iload_n 2, 0, [2]), (.iaload, 0, []), (.lload 4, 0, [4]), (.ldc2_w 656, 1751474532, []), (.lcmp, 0, []), (.ifCond .ne 7, 0, [264]), (.iconst 1, 1, []), (.goto 4, 0, [265])]
def s421_264 : List E := [(.iconst 0, 0, []), (.nop, 0, [265])]
def s421_265 : List E := [(.invokevirtual 1127, 0, [433, 16, 33, 184, 0, 100, 3, 0]), (.nop, 0, [268])]
def s421_268 : List E := [(.aload_n 0, 0, [0]), (.getfield 283, 88, [16, 132, 87, 1]), (.iload_n 2, 0, [2]), (.aload_n 0, 0, [0]), (.getfield 599, 0, [16, 29, 0]), (.iload 6, 0, [6]), (.isub, 0, []), (.i2l, 0, []), (.lastore, 0, []), (.iinc 2 1, 1, [2]), (.goto (-278), 0, [7])]
def s421_288 : List E := [(.return_, 0, [])]
def cd421 : List (Nat × List E) := [(0, s421_0), (7, s421_7), (116, s421_116), (117, s421_117), (119, s421_119), (148, s421_148), (151, s421_151), (198, s421_198), (219, s421_219), (220, s421_220), (244, s421_244), (264, s421_264), (265, s421_265), (268, s421_268), (288, s421_288)]
theorem l421_0 : lkc cd421 0 = s421_0 := rfl
theorem l421_7 : lkc cd421 7 = s421_7 := rfl
theorem l421_116 : lkc cd421 116 = s421_116 := rfl
theorem l421_117 : lkc cd421 117 = s421_117 := rfl
theorem l421_119 : lkc cd421 119 = s421_119 := rfl
theorem l421_148 : lkc cd421 148 = s421_148 := rfl
theorem l421_151 : lkc cd421 151 = s421_151 := rfl
theorem l421_198 : lkc cd421 198 = s421_198 := rfl
theorem l421_219 : lkc cd421 219 = s421_219 := rfl
theorem l421_220 : lkc cd421 220 = s421_220 := rfl
theorem l421_244 : lkc cd421 244 = s421_244 := rfl
theorem l421_264 : lkc cd421 264 = s421_264 := rfl
theorem l421_265 : lkc cd421 265 = s421_265 := rfl
theorem l421_268 : lkc cd421 268 = s421_268 := rfl
theorem l421_288 : lkc cd421 288 = s421_288 := rfl
theorem k421 : chkM 421 16 true cd421 = true := by decide +kernel
/- FontHouseModel.turnFont(I)V -/
def s422_0 : List E := [(.aload_n 0, 0, [0]), (.iload_n 1, 0, [1]), (.iconst 1, 1, []), (.invokevirtual 884, 0, [378, 16, 33, 8, 0, 3, 3, 0]), (.pop, 0, []), (.iconst 0, 0, []), (.istore_n 2, 0, [2]), (.nop, 0, [9])]
def s422_9 : List E := [(.iload_n 2, 0, [2]), (.bipush 7, 7, []), (.if_icmp .ge 16, 0, [28]), (.aload_n 0, 0, [0]), (.getfield 299, 93, [16, 137, 81, 1]), (.iload_n 2, 0, [2]), (.iconst 0, 0, []), (.iastore, 0, []), (.iinc 2 1, 1, [2]), (.goto (-16), 0, [9])]
def s422_28 : List E := [(.aload_n 0, 0, [0]), (.getfield 782, 0, [16, 70, 0]), (.bipush 31, 31, []), (.iadd, 0, []), (.bipush 32, 32, []), (.idiv, 0, []), (.iconst 4, 4, []), (.imul, 0, []), (.istore_n 2, 0, [2]), (.iconst 0, 0, []), (.istore_n 3, 0, [3]), (.nop, 0, [43])]
def s422_43 : List E := [(.iload_n 3, 0, [3]), (.iload_n 2, 0, [2]), (.if_icmp .ge 15, 0, [60]), (.aload_n 0, 0, [0]), (.iconst 5, 5, []), (.iconst 0, 0, []), (.invokevirtual 1092, 0, [423, 16, 33, 181, 0, 100, 0, 0]), (.iinc 3 1, 1, [3]), (.goto (-14), 0, [43])]
def s422_60 : List E := [(.lconst 0, 0, []), (.lstore_n 3, 0, [3]), (.iconst 0, 0, []), (.istore 5, 0, [5]), (.nop, 0, [65])]
def s422_65 : List E := [(.iload 5, 0, [5]), (.aload_n 0, 0, [0]), (.getfield 782, 0, [16, 70, 0]), (.if_icmp .ge 100, 0, [171]), (.aload_n 0, 0, [0]), (.iload_n 1, 0, [1]), (.iload 5, 0, [5]), (.invokevirtual 899, 0, [381, 16, 33, 43, 0, 100, 0, 0]), (.aload_n 0, 0, [0]), (.invokevirtual 1111, 0, [424, 16, 33, 108, 0, 100]), (.aload_n 0, 0, [0]), (.invokevirtual 1114, 0, [428, 16, 33, 160, 0, 3]), (.ifCond .eq 58, 0, [147]), (.aload_n 0, 0, [0]), (.getfield 296, 92, [16, 136, 83, 1]), (.ldc_w 1117, 100000, []), (.iload 5, 0, [5]), (.bipush 8, 8, []), (.idiv, 0, []), (.iadd, 0, []), (.dup2, 0, []), (.baload, 0, [41]), (.sipush 128, 128, []), (.iload 5, 0, [5]), (.bipush 8, 8, []), (.irem, 0, []), (.ishr, 0, []), (.i2b, 0, []), (.ior, 0, []), (.i2b, 0, []), (.bastore, 0, [41]), (.iconst 0, 0, []), (.istore 6, 0, [6]), (.nop, 0, [123])]
def s422_123 : List E := [(.iload 6, 0, [6]), (.iconst 4, 4, []), (.if_icmp .ge 21, 0, [147]), (.aload_n 0, 0, [0]), (.iconst 5, 5, []), (.aload_n 0, 0, [0]), (.getfield 175, 52, [16, 79, 81, 1]), (.iload 6, 0, [6]), (.iaload, 0, []), (.invokevirtual 1095, 0, [425, 16, 33, 159, 0, 100, 0, 0]), (.iinc 6 1, 1, [6]), (.goto (-21), 0, [123])]
def s422_147 : List E := [(.lload_n 3, 0, [3]), (.aload_n 0, 0, [0]), (.getfield 823, 0, [16, 78, 3]), (.ifCond .eq 10, 0, [162]), (.lconst 1, 1, []), (.iload 5, 0, [5]), (.lshl, 0, []), (.goto 4, 0, [163])]
def s422_162 : List E := [(.lconst 0, 0, []), (.nop, 0, [163])]
def s422_163 : List E := [(.lor, 0, []), (.lstore_n 3, 0, [3]), (.iinc 5 1, 1, [5]), (.goto (-103), 0, [65])]
def s422_171 : List E := [(.aload_n 0, 0, [0]), (.iconst 0, 0, []), (.invokevirtual 1108, 0, [429, 16, 33, 161, 0, 100, 0]), (.aload_n 0, 0, [0]), (.lload_n 3, 0, [3]), (.lconst 0, 0, []), (.lcmp, 0, []), (.ifCond .eq 7, 0, [187]), (.iconst 1, 1, []), (.goto 4, 0, [188])]
def s422_187 : List E := [(.iconst 0, 0, []), (.nop, 0, [188])]
def s422_188 : List E := [(.invokevirtual 1108, 0, [429, 16, 33, 161, 0, 100, 0]), (.aload_n 0, 0, [0]), (.aload_n 0, 0, [0]), (.getfield 782, 0, [16, 70, 0]), (.invokevirtual 1108, 0, [429, 16, 33, 161, 0, 100, 0]), (.aload_n 0, 0, [0]), (.aload_n 0, 0, [0]), (.getfield 779, 0, [16, 72, 0]), (.invokevirtual 1108, 0, [429, 16, 33, 161, 0, 100, 0]), (.iconst 0, 0, []), (.istore 5, 0, [5]), (.nop, 0, [210])]
def s422_210 : List E := [(.iload 5, 0, [5]), (.bipush 7, 7, []), (.if_icmp .ge 20, 0, [234]), (.aload_n 0, 0, [0]), (.aload_n 0, 0, [0]), (.getfield 299, 93, [16, 137, 81, 1]), (.iload 5, 0, [5]), (.iaload, 0, []), (.invokevirtual 1118, 0, [431, 16, 33, 140, 0, 100, 0]), (.iinc 5 1, 1, [5]), (.goto (-21), 0, [210])]
def s422_234 : List E := [(.iconst 0, 0, []), (.istore 5, 0, [5]), (.nop, 0, [237])]
def s422_237 : List E := [(.iload 5, 0, [5]), (.bipush 7, 7, []), (.if_icmp .ge 48, 0, [289]), (.iconst 0, 0, []), (.istore 6, 0, [6]), (.nop, 0, [247])]
def s422_247 : List E := [(.iload 6, 0, [6]), (.aload_n 0, 0, [0]), (.getfield 299, 93, [16, 137, 81, 1]), (.iload 5, 0, [5]), (.iaload, 0, []), (.if_icmp .ge 27, 0, [283]), (.aload_n 0, 0, [0]), (.aload_n 0, 0, [0]), (.getfield 296, 92, [16, 136, 83, 1]), (.sipush 20000, 20000, []), (.iload 5, 0, [5]), (.imul, 0, []), (.iload 6, 0, [6]), (.iadd, 0, []), (.baload, 0, [41]), (.invokevirtual 1105, 0, [430, 16, 33, 182, 0, 100, 0]), (.iinc 6 1, 1, [6]), (.goto (-33), 0, [247])]
def s422_283 : List E := [(.iinc 5 1, 1, [5]), (.goto (-49), 0, [237])]
def s422_289 : List E := [(.iconst 0, 0, []), (.istore 5, 0, [5]), (.nop, 0, [292])]
def s422_292 : List E := [(.iload 5, 0, [5]), (.aload_n 0, 0, [0]), (.getfield 782, 0, [16, 70, 0]), (.bipush 7, 7, []), (.iadd, 0, []), (.bipush 8, 8, []), (.idiv, 0, []), (.if_icmp .ge 85, 0, [389]), (.lload_n 3, 0, [3]), (.lconst 0, 0, []), (.lcmp, 0, []), (.ifCond .eq 79, 0, [389]), (.iconst 0, 0, []), (.istore 6, 0, [6]), (.iconst 0, 0, []), (.istore 7, 0, [7]), (.nop, 0, [319])]
def s422_319 : List E := [(.iload 7, 0, [7]), (.bipush 8, 8, []), (.if_icmp .ge 54, 0, [377]), (.iload 6, 0, [6]), (.bipush 8, 8, []), (.iload 5, 0, [5]), (.imul, 0, []), (.iload 7, 0, [7]), (.iadd, 0, []), (.bipush 64, 64, []), (.if_icmp .ge 29, 0, [367]), (.lload_n 3, 0, [3]), (.bipush 8, 8, []), (.iload 5, 0, [5]), (.imul, 0, []), (.iload 7, 0, [7]), (.iadd, 0, []), (.lshr, 0, []), (.lconst 1, 1, []), (.land, 0, []), (.lconst 1, 1, []), (.lcmp, 0, []), (.ifCond .ne 12, 0, [367]), (.sipush 128, 128, []), (.iload 7, 0, [7]), (.ishr, 0, []), (.goto 4, 0, [368])]
def s422_367 : List E := [(.iconst 0, 0, []), (.nop, 0, [368])]
def s422_368 : List E := [(.ior, 0, []), (.istore 6, 0, [6]), (.iinc 7 1, 1, [7]), (.goto (-55), 0, [319])]
def s422_377 : List E := [(.aload_n 0, 0, [0]), (.iload 6, 0, [6]), (.invokevirtual 1105, 0, [430, 16, 33, 182, 0, 100, 0]), (.iinc 5 1, 1, [5]), (.goto (-94), 0, [292])]
def s422_389 : List E := [(.return_, 0, [])]
def cd422 : List (Nat × List E) := [(0, s422_0), (9, s422_9), (28, s422_28), (43, s422_43), (60, s422_60), (65, s422_65), (123, s422_123), (147, s422_147), (162, s422_162), (163, s422_163), (171, s422_171), (187, s422_187), (188, s422_188), (210, s422_210), (234, s422_234), (237, s422_237), (247, s422_247), (283, s422_283), (289, s422_289), (292, s422_292), (319, s422_319), (367, s422_367), (368, s422_368), (377, s422_377), (389, s422_389)]
theorem l422_0 : lkc cd422 0 = s422_0 := rfl
theorem l422_9 : lkc cd422 9 = s422_9 := rfl
theorem l422_28 : lkc cd422 28 = s422_28 := rfl
theorem l422_43 : lkc cd422 43 = s422_43 := rfl
theorem l422_60 : lkc cd422 60 = s422_60 := rfl
theorem l422_65 : lkc cd422 65 = s422_65 := rfl
theorem l422_123 : lkc cd422 123 = s422_123 := rfl
theorem l422_147 : lkc cd422 147 = s422_147 := rfl
theorem l422_162 : lkc cd422 162 = s422_162 := rfl
theorem l422_163 : lkc cd422 163 = s422_163 := rfl
theorem l422_171 : lkc cd422 171 = s422_171 := rfl
theorem l422_187 : lkc cd422 187 = s422_187 := rfl
theorem l422_188 : lkc cd422 188 = s422_188 := rfl
theorem l422_210 : lkc cd422 210 = s422_210 := rfl
theorem l422_234 : lkc cd422 234 = s422_234 := rfl
theorem l422_237 : lkc cd422 237 = s422_237 := rfl
theorem l422_247 : lkc cd422 247 = s422_247 := rfl
theorem l422_283 : lkc cd422 283 = s422_283 := rfl
theorem l422_289 : lkc cd422 289 = s422_289 := rfl
theorem l422_292 : lkc cd422 292 = s422_292 := rfl
theorem l422_319 : lkc cd422 319 = s422_319 := rfl
theorem l422_367 : lkc cd422 367 = s422_367 := rfl
theorem l422_368 : lkc cd422 368 = s422_368 := rfl
theorem l422_377 : lkc cd422 377 = s422_377 := rfl
theorem l422_389 : lkc cd422 389 = s422_389 := rfl
theorem k422 : chkM 422 16 true cd422 = true := by decide +kernel
/- FontHouseModel.turn(II)V -/
def s423_0 : List E := [(.aload_n 0, 0, [0]), (.getfield 299, 93, [16, 137, 81, 1]), (.iload_n 1, 0, [1]), (.iaload, 0, []), (.sipush 20000, 20000, []), (.if_icmp .ge 22, 0, [31]), (.aload_n 0, 0, [0]), (.getfield 296, 92, [16, 136, 83, 1]), (.sipush 20000, 20000, []), (.iload_n 1, 0, [1]), (.imul, 0, []), (.aload_n 0, 0, [0]), (.getfield 299, 93, [16, 137, 81, 1]), (.iload_n 1, 0, [1]), (.iaload, 0, []), (.iadd, 0, []), (.iload_n 2, 0, [2]), (.i2b, 0, []), (.bastore, 0, [41]), (.nop, 0, [31])]
def s423_31 : List E := [(.aload_n 0, 0, [0]), (.getfield 299, 93, [16, 137, 81, 1]), (.iload_n 1, 0, [1]), (.dup2, 0, []), (.iaload, 0, []), (.iconst 1, 1, []), (.iadd, 0, []), (.iastore, 0, []), (.return_, 0, [])]
def cd423 : List (Nat × List E) := [(0, s423_0), (31, s423_31)]
theorem l423_0 : lkc cd423 0 = s423_0 := rfl
theorem l423_31 : lkc cd423 31 = s423_31 := rfl
theorem k423 : chkM 423 16 true cd423 = true := by decide +kernel
/- FontHouseModel.turnGlyph()V -/
def s424_0 : List E := [(.aload_n 0, 0, [0]), (.iconst 0, 0, []), (.aload_n 0, 0, [0]), (.getfield 808, 0, [16, 73, 0]), (.invokevirtual 1095, 0, [425, 16, 33, 36, 0, 100, 0, 0]), (.aload_n 0, 0, [0]), (.getfield 808, 0, [16, 73, 0]), (.ifCond .le 113, 0, [126]), (.iconst (-1), -1, []), (.istore_n 1, 0, [1]), (.iconst 0, 0, []), (.istore_n 2, 0, [2]), (.nop, 0, [20])]
def s424_20 : List E := [(.iload_n 2, 0, [2]), (.aload_n 0, 0, [0]), (.getfield 811, 0, [16, 74, 0]), (.if_icmp .ge 29, 0, [54]), (.aload_n 0, 0, [0]), (.iconst 1, 1, []), (.aload_n 0, 0, [0]), (.getfield 178, 53, [16, 80, 81, 1]), (.iload_n 2, 0, [2]), (.iaload, 0, []), (.iload_n 1, 0, [1]), (.isub, 0, []), (.invokevirtual 1098, 0, [426, 16, 33, 14, 0, 100, 0, 0]), (.aload_n 0, 0, [0]), (.getfield 178, 53, [16, 80, 81, 1]), (.iload_n 2, 0, [2]), (.iaload, 0, []), (.istore_n 1, 0, [1]), (.iinc 2 1, 1, [2]), (.goto (-31), 0, [20])]
def s424_54 : List E := [(.iconst 0, 0, []), (.istore_n 2, 0, [2]), (.nop, 0, [56])]
def s424_56 : List E := [(.iload_n 2, 0, [2]), (.aload_n 0, 0, [0]), (.getfield 814, 0, [16, 75, 0]), (.if_icmp .ge 65, 0, [126]), (.aload_n 0, 0, [0]), (.aload_n 0, 0, [0]), (.getfield 181, 54, [16, 81, 81, 1]), (.iload_n 2, 0, [2]), (.iaload, 0, []), (.iload_n 2, 0, [2]), (.ifCond .le 14, 0, [86]), (.aload_n 0, 0, [0]), (.getfield 181, 54, [16, 81, 81, 1]), (.iload_n 2, 0, [2]), (.iconst 1, 1, []), (.isub, 0, []), (.iaload, 0, []), (.goto 4, 0, [87])]
def s424_86 : List E := [(.iconst 0, 0, []), (.nop, 0, [87])]
def s424_87 : List E := [(.isub, 0, []), (.aload_n 0, 0, [0]), (.getfield 184, 55, [16, 82, 81, 1]), (.iload_n 2, 0, [2]), (.iaload, 0, []), (.iload_n 2, 0, [2]), (.ifCond .le 14, 0, [109]), (.aload_n 0, 0, [0]), (.getfield 184, 55, [16, 82, 81, 1]), (.iload_n 2, 0, [2]), (.iconst 1, 1, []), (.isub, 0, []), (.iaload, 0, []), (.goto 4, 0, [110])]
def s424_109 : List E := [(.iconst 0, 0, []), (.nop, 0, [110])]
def s424_110 : List E := [(.isub, 0, []), (.aload_n 0, 0, [0]), (.getfield 187, 56, [16, 83, 89, 1]), (.iload_n 2, 0, [2]), (.baload, 0, [44]), (.invokevirtual 1101, 0, [427, 16, 33, 8, 0, 100, 3, 0, 0]), (.iinc 2 1, 1, [2]), (.goto (-67), 0, [56])]
def s424_126 : List E := [(.aload_n 0, 0, [0]), (.getfield 808, 0, [16, 73, 0]), (.ifCond .ge 133, 0, [263]), (.iconst 0, 0, []), (.istore_n 1, 0, [1]), (.nop, 0, [135])]
def s424_135 : List E := [(.iload_n 1, 0, [1]), (.aload_n 0, 0, [0]), (.getfield 817, 0, [16, 76, 0]), (.if_icmp .ge 123, 0, [263]), (.aload_n 0, 0, [0]), (.iconst 4, 4, []), (.aload_n 0, 0, [0]), (.getfield 193, 58, [16, 85, 81, 1]), (.iload_n 1, 0, [1]), (.iaload, 0, []), (.invokevirtual 1095, 0, [425, 16, 33, 36, 0, 100, 0, 0]), (.aload_n 0, 0, [0]), (.iconst 4, 4, []), (.aload_n 0, 0, [0]), (.getfield 196, 59, [16, 86, 81, 1]), (.iload_n 1, 0, [1]), (.iaload, 0, []), (.invokevirtual 1095, 0, [425, 16, 33, 36, 0, 100, 0, 0]), (.iconst 0, 0, []), (.istore_n 2, 0, [2]), (.nop, 0, [167])]
def s424_167 : List E := [(.iload_n 2, 0, [2]), (.iconst 2, 2, []), (.if_icmp .ge 55, 0, [224]), (.iload_n 2, 0, [2]), (.ifCond .ne 12, 0, [185]), (.aload_n 0, 0, [0]), (.getfield 199, 60, [16, 87, 81, 1]), (.iload_n 1, 0, [1]), (.iaload, 0, []), (.goto 9, 0, [191])]
def s424_185 : List E := [(.aload_n 0, 0, [0]), (.getfield 202, 61, [16, 88, 81, 1]), (.iload_n 1, 0, [1]), (.iaload, 0, []), (.nop, 0, [191])]
def s424_191 : List E := [(.istore_n 3, 0, [3]), (.aload_n 0, 0, [0]), (.getfield 193, 58, [16, 85, 81, 1]), (.iload_n 1, 0, [1]), (.iaload, 0, []), (.iconst 1, 1, []), (.iand, 0, []), (.ifCond .le 12, 0, [212]), (.aload_n 0, 0, [0]), (.iconst 4, 4, []), (.iload_n 3, 0, [3]), (.invokevirtual 1095, 0, [425, 16, 33, 36, 0, 100, 0, 0]), (.goto 9, 0, [218])]
def s424_212 : List E := [(.aload_n 0, 0, [0]), (.iconst 4, 4, []), (.iload_n 3, 0, [3]), (.invokevirtual 1092, 0, [423, 16, 33, 58, 0, 100, 0, 0]), (.nop, 0, [218])]
def s424_218 : List E := [(.iinc 2 1, 1, [2]), (.goto (-54), 0, [167])]
def s424_224 : List E := [(.iconst 0, 0, []), (.istore_n 2, 0, [2]), (.nop, 0, [226])]
def s424_226 : List E := [(.iload_n 2, 0, [2]), (.aload_n 0, 0, [0]), (.getfield 205, 62, [16, 89, 81, 1]), (.iload_n 1, 0, [1]), (.iaload, 0, []), (.if_icmp .ge 24, 0, [257]), (.aload_n 0, 0, [0]), (.iconst 4, 4, []), (.aload_n 0, 0, [0]), (.getfield 208, 63, [16, 90, 81, 1]), (.iconst 4, 4, []), (.iload_n 1, 0, [1]), (.imul, 0, []), (.iload_n 2, 0, [2]), (.iadd, 0, []), (.iaload, 0, []), (.invokevirtual 1095, 0, [425, 16, 33, 36, 0, 100, 0, 0]), (.iinc 2 1, 1, [2]), (.goto (-28), 0, [226])]
def s424_257 : List E := [(.iinc 1 1, 1, [1]), (.goto (-125), 0, [135])]
def s424_263 : List E := [(.aload_n 0, 0, [0]), (.getfield 808, 0, [16, 73, 0]), (.ifCond .gt 17, 0, [284]), (.aload_n 0, 0, [0]), (.getfield 808, 0, [16, 73, 0]), (.ifCond .ge 47, 0, [321]), (.aload_n 0, 0, [0]), (.invokevirtual 857, 0, [375, 16, 33, 59, 0, 3]), (.ifCond .eq 40, 0, [321]), (.nop, 0, [284])]
def s424_284 : List E := [(.aload_n 0, 0, [0]), (.iconst 3, 3, []), (.aload_n 0, 0, [0]), (.getfield 820, 0, [16, 77, 0]), (.invokevirtual 1098, 0, [426, 16, 33, 14, 0, 100, 0, 0]), (.iconst 0, 0, []), (.istore_n 1, 0, [1]), (.nop, 0, [295])]
def s424_295 : List E := [(.iload_n 1, 0, [1]), (.aload_n 0, 0, [0]), (.getfield 820, 0, [16, 77, 0]), (.if_icmp .ge 21, 0, [321]), (.aload_n 0, 0, [0]), (.bipush 6, 6, []), (.aload_n 0, 0, [0]), (.getfield 211, 64, [16, 91, 83, 1]), (.iload_n 1, 0, [1]), (.baload, 0, [41]), (.invokevirtual 1092, 0, [423, 16, 33, 58, 0, 100, 0, 0]), (.iinc 1 1, 1, [1]), (.goto (-23), 0, [295])]
def s424_321 : List E := [(.return_, 0, [])]
def cd424 : List (Nat × List E) := [(0, s424_0), (20, s424_20), (54, s424_54), (56, s424_56), (86, s424_86), (87, s424_87), (109, s424_109), (110, s424_110), (126, s424_126), (135, s424_135), (167, s424_167), (185, s424_185), (191, s424_191), (212, s424_212), (218, s424_218), (224, s424_224), (226, s424_226), (257, s424_257), (263, s424_263), (284, s424_284), (295, s424_295), (321, s424_321)]
theorem l424_0 : lkc cd424 0 = s424_0 := rfl
theorem l424_20 : lkc cd424 20 = s424_20 := rfl
theorem l424_54 : lkc cd424 54 = s424_54 := rfl
theorem l424_56 : lkc cd424 56 = s424_56 := rfl
theorem l424_86 : lkc cd424 86 = s424_86 := rfl
theorem l424_87 : lkc cd424 87 = s424_87 := rfl
theorem l424_109 : lkc cd424 109 = s424_109 := rfl
theorem l424_110 : lkc cd424 110 = s424_110 := rfl
theorem l424_126 : lkc cd424 126 = s424_126 := rfl
theorem l424_135 : lkc cd424 135 = s424_135 := rfl
theorem l424_167 : lkc cd424 167 = s424_167 := rfl
theorem l424_185 : lkc cd424 185 = s424_185 := rfl
theorem l424_191 : lkc cd424 191 = s424_191 := rfl
theorem l424_212 : lkc cd424 212 = s424_212 := rfl
theorem l424_218 : lkc cd424 218 = s424_218 := rfl
theorem l424_224 : lkc cd424 224 = s424_224 := rfl
theorem l424_226 : lkc cd424 226 = s424_226 := rfl
theorem l424_257 : lkc cd424 257 = s424_257 := rfl
theorem l424_263 : lkc cd424 263 = s424_263 := rfl
theorem l424_284 : lkc cd424 284 = s424_284 := rfl
theorem l424_295 : lkc cd424 295 = s424_295 := rfl
theorem l424_321 : lkc cd424 321 = s424_321 := rfl
theorem k424 : chkM 424 16 true cd424 = true := by decide +kernel
