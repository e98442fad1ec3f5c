set_option maxRecDepth 100000
/- FontHouseModel.uBig()J -/
def s449_0 : List E := [(.aload_n 0, 0, [0]), (.getfield 1176, 0, [16, 140, 0]), (.istore_n 1, 0, [1]), (.lconst 0, 0, []), (.lstore_n 2, 0, [2]), (.iconst 0, 0, []), (.istore 4, 0, [4]), (.nop, 0, [10])]
def s449_10 : List E := [(.iload 4, 0, [4]), (.iconst 5, 5, []), (.if_icmp .ge 92, 0, [105]), (.aload_n 0, 0, [0]), (.getfield 343, 0, [16, 2, 0]), (.ifCond .ne 85, 0, [105]), (.aload_n 0, 0, [0]), (.invokevirtual 1182, 0, [447, 16, 33, 8, 0, 0]), (.istore 5, 0, [5]), (.aload_n 0, 0, [0]), (.getfield 343, 0, [16, 2, 0]), (.ifCond .le 5, 0, [38]), (.lconst 0, 0, []), (.lreturn, 0, [])]
def s449_38 : List E := [(.iload 4, 0, [4]), (.ifCond .ne 21, 0, [61]), (.iload 5, 0, [5]), (.sipush 128, 128, []), (.if_icmp .ne 13, 0, [61]), (.aload_n 0, 0, [0]), (.bipush 47, 47, []), (.iload_n 1, 0, [1]), (.invokevirtual 357, 0, [243, 16, 33, 49, 0, 3, 0, 0]), (.pop, 0, []), (.lconst 0, 0, []), (.lreturn, 0, [])]
def s449_61 : List E := [(.lload_n 2, 0, [2]), (.bipush 7, 7, []), (.lshl, 0, []), (.iload 5, 0, [5]), (.bipush 127, 127, []), (.iand, 0, []), (.i2l, 0, []), (.lor, 0, []), (.lstore_n 2, 0, [2]), (.iload 5, 0, [5]), (.sipush 128, 128, []), (.if_icmp .ge 21, 0, [99]), (.lload_n 2, 0, [2]), (.ldc2_w 341, 4294967295, []), (.lcmp, 0, []), (.ifCond .le 11, 0, [97]), (.aload_n 0, 0, [0]), (.bipush 47, 47, []), (.iload_n 1, 0, [1]), (.invokevirtual 357, 0, [243, 16, 33, 49, 0, 3, 0, 0]), (.pop, 0, []), (.nop, 0, [97])]
def s449_97 : List E := [(.lload_n 2, 0, [2]), (.lreturn, 0, [])]
def s449_99 : List E := [(.iinc 4 1, 1, [4]), (.goto (-92), 0, [10])]
def s449_105 : List E := [(.aload_n 0, 0, [0]), (.bipush 47, 47, []), (.iload_n 1, 0, [1]), (.invokevirtual 357, 0, [243, 16, 33, 49, 0, 3, 0, 0]), (.pop, 0, []), (.lconst 0, 0, []), (.lreturn, 0, [])]
def cd449 : List (Nat × List E) := [(0, s449_0), (10, s449_10), (38, s449_38), (61, s449_61), (97, s449_97), (99, s449_99), (105, s449_105)]
theorem l449_0 : lkc cd449 0 = s449_0 := rfl
theorem l449_10 : lkc cd449 10 = s449_10 := rfl
theorem l449_38 : lkc cd449 38 = s449_38 := rfl
theorem l449_61 : lkc cd449 61 = s449_61 := rfl
theorem l449_97 : lkc cd449 97 = s449_97 := rfl
theorem l449_99 : lkc cd449 99 = s449_99 := rfl
theorem l449_105 : lkc cd449 105 = s449_105 := rfl
theorem k449 : chkM 449 16 true cd449 = true := by decide +kernel
/- FontHouseModel.uSeveral()V -/
def s450_0 : List E := [(.aload_n 0, 0, [0]), (.getfield 1176, 0, [16, 140, 0]), (.istore_n 1, 0, [1]), (.aload_n 0, 0, [0]), (.invokevirtual 1185, 0, [448, 16, 33, 56, 0, 5]), (.ldc2_w 646, 65536, []), (.lcmp, 0, []), (.ifCond .eq 11, 0, [24]), (.aload_n 0, 0, [0]), (.bipush 52, 52, []), (.iload_n 1, 0, [1]), (.invokevirtual 357, 0, [243, 16, 33, 98, 0, 3, 0, 0]), (.pop, 0, []), (.nop, 0, [24])]
def s450_24 : List E := [(.aload_n 0, 0, [0]), (.getfield 1176, 0, [16, 140, 0]), (.istore_n 1, 0, [1]), (.aload_n 0, 0, [0]), (.aload_n 0, 0, [0]), (.invokevirtual 1195, 0, [451, 16, 33, 35, 0, 0]), (.putfield 1192, 0, [16, 141, 0]), (.aload_n 0, 0, [0]), (.getfield 343, 0, [16, 2, 0]), (.ifCond .ne 27, 0, [68]), (.aload_n 0, 0, [0]), (.getfield 1192, 0, [16, 141, 0]), (.iconst 1, 1, []), (.if_icmp .lt 11, 0, [60]), (.aload_n 0, 0, [0]), (.getfield 1192, 0, [16, 141, 0]), (.iconst 4, 4, []), (.if_icmp .le 11, 0, [68]), (.nop, 0, [60])]
def s450_60 : List E := [(.aload_n 0, 0, [0]), (.bipush 52, 52, []), (.iload_n 1, 0, [1]), (.invokevirtual 357, 0, [243, 16, 33, 98, 0, 3, 0, 0]), (.pop, 0, []), (.nop, 0, [68])]
def s450_68 : List E := [(.iconst 0, 0, []), (.istore_n 2, 0, [2]), (.nop, 0, [70])]
def s450_70 : List E := [(.iload_n 2, 0, [2]), (.aload_n 0, 0, [0]), (.getfield 1192, 0, [16, 141, 0]), (.if_icmp .ge 21, 0, [96]), (.aload_n 0, 0, [0]), (.getfield 343, 0, [16, 2, 0]), (.ifCond .ne 14, 0, [96]), (.aload_n 0, 0, [0]), (.iload_n 2, 0, [2]), (.invokevirtual 1198, 0, [452, 16, 33, 8, 0, 100, 0]), (.iinc 2 1, 1, [2]), (.goto (-23), 0, [70])]
def s450_96 : List E := [(.return_, 0, [])]
def cd450 : List (Nat × List E) := [(0, s450_0), (24, s450_24), (60, s450_60), (68, s450_68), (70, s450_70), (96, s450_96)]
theorem l450_0 : lkc cd450 0 = s450_0 := rfl
theorem l450_24 : lkc cd450 24 = s450_24 := rfl
theorem l450_60 : lkc cd450 60 = s450_60 := rfl
theorem l450_68 : lkc cd450 68 = s450_68 := rfl
theorem l450_70 : lkc cd450 70 = s450_70 := rfl
theorem l450_96 : lkc cd450 96 = s450_96 := rfl
theorem k450 : chkM 450 16 true cd450 = true := by decide +kernel
/- FontHouseModel.uShort()I -/
def s451_0 : List E := [(.aload_n 0, 0, [0]), (.invokevirtual 1182, 0, [447, 16, 33, 8, 0, 0]), (.istore_n 1, 0, [1]), (.iload_n 1, 0, [1]), (.sipush 253, 253, []), (.if_icmp .ge 5, 0, [14]), (.iload_n 1, 0, [1]), (.ireturn, 0, [])]
def s451_14 : List E := [(.iload_n 1, 0, [1]), (.sipush 253, 253, []), (.if_icmp .ne 18, 0, [36]), (.aload_n 0, 0, [0]), (.invokevirtual 1182, 0, [447, 16, 33, 8, 0, 0]), (.istore_n 2, 0, [2]), (.iload_n 2, 0, [2]), (.bipush 8, 8, []), (.ishl, 0, []), (.aload_n 0, 0, [0]), (.invokevirtual 1182, 0, [447, 16, 33, 8, 0, 0]), (.ior, 0, []), (.ireturn, 0, [])]
def s451_36 : List E := [(.iload_n 1, 0, [1]), (.sipush 255, 255, []), (.if_icmp .ne 9, 0, [49]), (.sipush 253, 253, []), (.goto 6, 0, [52])]
def s451_49 : List E := [(.sipush 506, 506, []), (.nop, 0, [52])]
def s451_52 : List E := [(.aload_n 0, 0, [0]), (.invokevirtual 1182, 0, [447, 16, 33, 8, 0, 0]), (.iadd, 0, []), (.ireturn, 0, [])]
def cd451 : List (Nat × List E) := [(0, s451_0), (14, s451_14), (36, s451_36), (49, s451_49), (52, s451_52)]
theorem l451_0 : lkc cd451 0 = s451_0 := rfl
theorem l451_14 : lkc cd451 14 = s451_14 := rfl
theorem l451_36 : lkc cd451 36 = s451_36 := rfl
theorem l451_49 : lkc cd451 49 = s451_49 := rfl
theorem l451_52 : lkc cd451 52 = s451_52 := rfl
theorem k451 : chkM 451 16 true cd451 = true := by decide +kernel
/- FontHouseModel.uFont(I)V -/
def s452_0 : List E := [(.aload_n 0, 0, [0]), (.getfield 1176, 0, [16, 140, 0]), (.istore_n 2, 0, [2]), (.aload_n 0, 0, [0]), (.getfield 305, 95, [16, 142, 81, 1]), (.iload_n 1, 0, [1]), (.aload_n 0, 0, [0]), (.invokevirtual 1195, 0, [451, 16, 33, 8, 0, 0]), (.iastore, 0, []), (.aload_n 0, 0, [0]), (.getfield 343, 0, [16, 2, 0]), (.ifCond .ne 32, 0, [51]), (.aload_n 0, 0, [0]), (.getfield 305, 95, [16, 142, 81, 1]), (.iload_n 1, 0, [1]), (.iaload, 0, []), (.iconst 1, 1, []), (.if_icmp .lt 14, 0, [43]), (.aload_n 0, 0, [0]), (.getfield 305, 95, [16, 142, 81, 1]), (.iload_n 1, 0, [1]), (.iaload, 0, []), (.bipush 16, 16, []), (.if_icmp .le 11, 0, [51]), (.nop, 0, [43])]
def s452_43 : List E := [(.aload_n 0, 0, [0]), (.bipush 52, 52, []), (.iload_n 2, 0, [2]), (.invokevirtual 357, 0, [243, 16, 33, 71, 0, 3, 0, 0]), (.pop, 0, []), (.nop, 0, [51])]
def s452_51 : List E := [(.aload_n 0, 0, [0]), (.getfield 1176, 0, [16, 140, 0]), (.istore_n 3, 0, [3]), (.aload_n 0, 0, [0]), (.getfield 308, 96, [16, 143, 87, 1]), (.iload_n 1, 0, [1]), (.aload_n 0, 0, [0]), (.invokevirtual 1185, 0, [448, 16, 33, 29, 0, 5]), (.lastore, 0, []), (.aload_n 0, 0, [0]), (.getfield 343, 0, [16, 2, 0]), (.ifCond .ne 24, 0, [94]), (.aload_n 0, 0, [0]), (.aload_n 0, 0, [0]), (.getfield 308, 96, [16, 143, 87, 1]), (.iload_n 1, 0, [1]), (.laload, 0, []), (.invokevirtual 684, 0, [328, 16, 33, 71, 0, 3, 5]), (.ifCond .ne 11, 0, [94]), (.aload_n 0, 0, [0]), (.bipush 52, 52, []), (.iload_n 3, 0, [3]), (.invokevirtual 357, 0, [243, 16, 33, 71, 0, 3, 0, 0]), (.pop, 0, []), (.nop, 0, [94])]
def s452_94 : List E := [(.iconst (-1), -1, []), (.istore 4, 0, [4]), (.iconst (-1), -1, []), (.istore 5, 0, [5]), (.iconst 0, 0, []), (.istore 6, 0, [6]), (.nop, 0, [103])]
def s452_103 : List E := [(.iload 6, 0, [6]), (.aload_n 0, 0, [0]), (.getfield 305, 95, [16, 142, 81, 1]), (.iload_n 1, 0, [1]), (.iaload, 0, []), (.if_icmp .ge 162, 0, [273]), (.aload_n 0, 0, [0]), (.getfield 343, 0, [16, 2, 0]), (.ifCond .ne 155, 0, [273]), (.aload_n 0, 0, [0]), (.getfield 1176, 0, [16, 140, 0]), (.istore_n 2, 0, [2]), (.aload_n 0, 0, [0]), (.invokevirtual 1195, 0, [451, 16, 33, 8, 0, 0]), (.istore 7, 0, [7]), (.aload_n 0, 0, [0]), (.getfield 343, 0, [16, 2, 0]), (.ifCond .le 4, 0, [140]), (.return_, 0, [])]
def s452_140 : List E := [(.iload 7, 0, [7]), (.aload_n 0, 0, [0]), (.getfield 1081, 0, [16, 128, 0]), (.if_icmp .ge 52, 0, [198]), (.aload_n 0, 0, [0]), (.getfield 274, 85, [16, 129, 87, 1]), (.iload 7, 0, [7]), (.laload, 0, []), (.ldc2_w 1090, 1146308935, []), (.lcmp, 0, []), (.ifCond .eq 38, 0, [198]), (.iload 6, 0, [6]), (.ifCond .le 42, 0, [207]), (.aload_n 0, 0, [0]), (.getfield 274, 85, [16, 129, 87, 1]), (.iload 7, 0, [7]), (.laload, 0, []), (.aload_n 0, 0, [0]), (.getfield 274, 85, [16, 129, 87, 1]), (.aload_n 0, 0, [0]), (.getfield 311, 97, [16, 144, 81, 1]), (.bipush 16, 16, []), (.iload_n 1, 0, [1]), (.imul, 0, []), (.iload 6, 0, [6]), (.iadd, 0, []), (.iconst 1, 1, []), (.isub, 0, []), (.iaload, 0, []), (.laload, 0, []), (.lcmp, 0, []), (.ifCond .gt 12, 0, [207]), (.nop, 0, [198])]
def s452_198 : List E := [(.aload_n 0, 0, [0]), (.bipush 52, 52, []), (.iload_n 2, 0, [2]), (.invokevirtual 357, 0, [243, 16, 33, 71, 0, 3, 0, 0]), (.pop, 0, []), (.return_, 0, [])]
def s452_207 : List E := [(.aload_n 0, 0, [0]), (.getfield 311, 97, [16, 144, 81, 1]), (.bipush 16, 16, []), (.iload_n 1, 0, [1]), (.imul, 0, []), (.iload 6, 0, [6]), (.iadd, 0, []), (.iload 7, 0, [7]), (.iastore, 0, []), (.aload_n 0, 0, [0]), (.getfield 274, 85, [16, 129, 87, 1]), (.iload 7, 0, [7]), (.laload, 0, []), (.ldc2_w 666, 1735162214, []), (.lcmp, 0, []), (.ifCond .ne 8, 0, [240]), (.iload 7, 0, [7]), (.goto 5, 0, [242])]
def s452_240 : List E := [(.iload 4, 0, [4]), (.nop, 0, [242])]
def s452_242 : List E := [(.istore 4, 0, [4]), (.aload_n 0, 0, [0]), (.getfield 274, 85, [16, 129, 87, 1]), (.iload 7, 0, [7]), (.laload, 0, []), (.ldc2_w 670, 1819239265, []), (.lcmp, 0, []), (.ifCond .ne 8, 0, [263]), (.iload 7, 0, [7]), (.goto 5, 0, [265])]
def s452_263 : List E := [(.iload 5, 0, [5]), (.nop, 0, [265])]
def s452_265 : List E := [(.istore 5, 0, [5]), (.iinc 6 1, 1, [6]), (.goto (-167), 0, [103])]
def s452_273 : List E := [(.aload_n 0, 0, [0]), (.getfield 343, 0, [16, 2, 0]), (.ifCond .ne 48, 0, [325]), (.iload 4, 0, [4]), (.ifCond .lt 7, 0, [289]), (.iconst 1, 1, []), (.goto 4, 0, [290])]
def s452_289 : List E := [(.iconst 0, 0, []), (.nop, 0, [290])]
def s452_290 : List E := [(.iload 5, 0, [5]), (.ifCond .lt 7, 0, [299]), (.iconst 1, 1, []), (.goto 4, 0, [300])]
def s452_299 : List E := [(.iconst 0, 0, []), (.nop, 0, [300])]
def s452_300 : List E := [(.if_icmp .ne 17, 0, [317]), (.iload 4, 0, [4]), (.ifCond .lt 20, 0, [325]), (.iload 5, 0, [5]), (.iload 4, 0, [4]), (.iconst 1, 1, []), (.iadd, 0, []), (.if_icmp .eq 11, 0, [325]), (.nop, 0, [317])]
def s452_317 : List E := [(.aload_n 0, 0, [0]), (.bipush 52, 52, []), (.iload_n 3, 0, [3]), (.invokevirtual 357, 0, [243, 16, 33, 71, 0, 3, 0, 0]), (.pop, 0, []), (.nop, 0, [325])]
def s452_325 : List E := [(.return_, 0, [])]
def cd452 : List (Nat × List E) := [(0, s452_0), (43, s452_43), (51, s452_51), (94, s452_94), (103, s452_103), (140, s452_140), (198, s452_198), (207, s452_207), (240, s452_240), (242, s452_242), (263, s452_263), (265, s452_265), (273, s452_273), (289, s452_289), (290, s452_290), (299, s452_299), (300, s452_300), (317, s452_317), (325, s452_325)]
theorem l452_0 : lkc cd452 0 = s452_0 := rfl
theorem l452_43 : lkc cd452 43 = s452_43 := rfl
theorem l452_51 : lkc cd452 51 = s452_51 := rfl
theorem l452_94 : lkc cd452 94 = s452_94 := rfl
theorem l452_103 : lkc cd452 103 = s452_103 := rfl
theorem l452_140 : lkc cd452 140 = s452_140 := rfl
theorem l452_198 : lkc cd452 198 = s452_198 := rfl
theorem l452_207 : lkc cd452 207 = s452_207 := rfl
theorem l452_240 : lkc cd452 240 = s452_240 := rfl
theorem l452_242 : lkc cd452 242 = s452_242 := rfl
theorem l452_263 : lkc cd452 263 = s452_263 := rfl
theorem l452_265 : lkc cd452 265 = s452_265 := rfl
theorem l452_273 : lkc cd452 273 = s452_273 := rfl
theorem l452_289 : lkc cd452 289 = s452_289 := rfl
theorem l452_290 : lkc cd452 290 = s452_290 := rfl
theorem l452_299 : lkc cd452 299 = s452_299 := rfl
theorem l452_300 : lkc cd452 300 = s452_300 := rfl
theorem l452_317 : lkc cd452 317 = s452_317 := rfl
theorem l452_325 : lkc cd452 325 = s452_325 := rfl
theorem k452 : chkM 452 16 true cd452 = true := by decide +kernel
/- FontHouseModel.uOne()V -/
def s453_0 : List E := [(.aload_n 0, 0, [0]), (.iconst 1, 1, []), (.putfield 1192, 0, [16, 141, 0]), (.aload_n 0, 0, [0]), (.getfield 308, 96, [16, 143, 87, 1]), (.iconst 0, 0, []), (.aload_n 0, 0, [0]), (.aload_n 0, 0, [0]), (.getfield 1173, 0, [16, 139, 0]), (.iconst 4, 4, []), (.invokevirtual 680, 0, [327, 16, 33, 8, 0, 5, 0, 0]), (.lastore, 0, []), (.iconst 0, 0, []), (.istore_n 1, 0, [1]), (.nop, 0, [22])]
def s453_22 : List E := [(.iload_n 1, 0, [1]), (.aload_n 0, 0, [0]), (.getfield 1081, 0, [16, 128, 0]), (.if_icmp .ge 99, 0, [126]), (.aload_n 0, 0, [0]), (.getfield 343, 0, [16, 2, 0]), (.ifCond .ne 92, 0, [126]), (.aload_n 0, 0, [0]), (.getfield 274, 85, [16, 129, 87, 1]), (.iload_n 1, 0, [1]), (.laload, 0, []), (.ldc2_w 1090, 1146308935, []), (.lcmp, 0, []), (.ifCond .ne 7, 0, [54]), (.iconst 1, 1, []), (.goto 4, 0, [55])]
def s453_54 : List E := [(.iconst 0, 0, []), (.nop, 0, [55])]
def s453_55 : List E := [(.istore_n 2, 0, [2]), (.iconst 0, 0, []), (.istore_n 3, 0, [3]), (.nop, 0, [58])]
def s453_58 : List E := [(.iload_n 3, 0, [3]), (.iload_n 1, 0, [1]), (.if_icmp .ge 35, 0, [95]), (.iload_n 2, 0, [2]), (.ifCond .ne 19, 0, [83]), (.aload_n 0, 0, [0]), (.getfield 274, 85, [16, 129, 87, 1]), (.iload_n 3, 0, [3]), (.laload, 0, []), (.aload_n 0, 0, [0]), (.getfield 274, 85, [16, 129, 87, 1]), (.iload_n 1, 0, [1]), (.laload, 0, []), (.lcmp, 0, []), (.ifCond .ne 7, 0, [87]), (.nop, 0, [83])]
def s453_83 : List E := [(.iconst 1, 1, []), (.goto 4, 0, [88])]
def s453_87 : List E := [(.iconst 0, 0, []), (.nop, 0, [88])]
def s453_88 : List E := [(.istore_n 2, 0, [2]), (.iinc 3 1, 1, [3]), (.goto (-34), 0, [58])]
def s453_95 : List E := [(.iload_n 2, 0, [2]), (.ifCond .eq 11, 0, [107]), (.aload_n 0, 0, [0]), (.bipush 51, 51, []), (.iload_n 1, 0, [1]), (.invokevirtual 357, 0, [243, 16, 33, 30, 0, 3, 0, 0]), (.pop, 0, []), (.nop, 0, [107])]
def s453_107 : List E := [(.iload_n 1, 0, [1]), (.bipush 16, 16, []), (.if_icmp .ge 10, 0, [120]), (.aload_n 0, 0, [0]), (.getfield 311, 97, [16, 144, 81, 1]), (.iload_n 1, 0, [1]), (.iload_n 1, 0, [1]), (.iastore, 0, []), (.nop, 0, [120])]
def s453_120 : List E := [(.iinc 1 1, 1, [1]), (.goto (-101), 0, [22])]
def s453_126 : List E := [(.aload_n 0, 0, [0]), (.getfield 305, 95, [16, 142, 81, 1]), (.iconst 0, 0, []), (.aload_n 0, 0, [0]), (.getfield 1081, 0, [16, 128, 0]), (.iastore, 0, []), (.aload_n 0, 0, [0]), (.getfield 343, 0, [16, 2, 0]), (.ifCond .ne 21, 0, [161]), (.aload_n 0, 0, [0]), (.getfield 1081, 0, [16, 128, 0]), (.bipush 16, 16, []), (.if_icmp .le 12, 0, [161]), (.aload_n 0, 0, [0]), (.bipush 51, 51, []), (.bipush 16, 16, []), (.invokevirtual 357, 0, [243, 16, 33, 30, 0, 3, 0, 0]), (.pop, 0, []), (.nop, 0, [161])]
def s453_161 : List E := [(.return_, 0, [])]
def cd453 : List (Nat × List E) := [(0, s453_0), (22, s453_22), (54, s453_54), (55, s453_55), (58, s453_58), (83, s453_83), (87, s453_87), (88, s453_88), (95, s453_95), (107, s453_107), (120, s453_120), (126, s453_126), (161, s453_161)]
theorem l453_0 : lkc cd453 0 = s453_0 := rfl
theorem l453_22 : lkc cd453 22 = s453_22 := rfl
theorem l453_54 : lkc cd453 54 = s453_54 := rfl
theorem l453_55 : lkc cd453 55 = s453_55 := rfl
theorem l453_58 : lkc cd453 58 = s453_58 := rfl
theorem l453_83 : lkc cd453 83 = s453_83 := rfl
theorem l453_87 : lkc cd453 87 = s453_87 := rfl
theorem l453_88 : lkc cd453 88 = s453_88 := rfl
theorem l453_95 : lkc cd453 95 = s453_95 := rfl
theorem l453_107 : lkc cd453 107 = s453_107 := rfl
theorem l453_120 : lkc cd453 120 = s453_120 := rfl
theorem l453_126 : lkc cd453 126 = s453_126 := rfl
theorem l453_161 : lkc cd453 161 = s453_161 := rfl
theorem k453 : chkM 453 16 true cd453 = true := by decide +kernel
/- FontHouseModel.uStream()V -/
def s454_0 : List E := [(.aload_n 0, 0, [0]), (.aload_n 0, 0, [0]), (.getfield 1173, 0, [16, 139, 0]), (.bipush 20, 20, []), (.invokevirtual 680, 0, [327, 16, 33, 205, 0, 5, 0, 0]), (.lstore_n 1, 0, [1]), (.aload_n 0, 0, [0]), (.getfield 1176, 0, [16, 140, 0]), (.i2l, 0, []), (.lload_n 1, 0, [1]), (.ladd, 0, []), (.ldc2_w 1201, 3, []), (.ladd, 0, []), (.ldc2_w 1203, -4, []), (.land, 0, []), (.lstore_n 3, 0, [3]), (.lload_n 3, 0, [3]), (.aload_n 0, 0, [0]), (.getfield 14, 2, [16, 1, 81, 1]), (.aload_n 0, 0, [0]), (.getfield 1173, 0, [16, 139, 0]), (.iaload, 0, []), (.i2l, 0, []), (.lcmp, 0, []), (.ifCond .eq 13, 0, [52]), (.aload_n 0, 0, [0]), (.bipush 53, 53, []), (.bipush 20, 20, []), (.invokevirtual 357, 0, [243, 16, 33, 227, 0, 3, 0, 0]), (.pop, 0, []), (.return_, 0, [])]
def s454_52 : List E := [(.aload_n 0, 0, [0]), (.getfield 1176, 0, [16, 140, 0]), (.lload_n 1, 0, [1]), (.l2i, 0, []), (.iadd, 0, []), (.istore 5, 0, [5]), (.nop, 0, [61])]
def s454_61 : List E := [(.iload 5, 0, [5]), (.aload_n 0, 0, [0]), (.getfield 14, 2, [16, 1, 81, 1]), (.aload_n 0, 0, [0]), (.getfield 1173, 0, [16, 139, 0]), (.iaload, 0, []), (.if_icmp .ge 32, 0, [104]), (.aload_n 0, 0, [0]), (.aload_n 0, 0, [0]), (.getfield 1173, 0, [16, 139, 0]), (.iload 5, 0, [5]), (.invokevirtual 335, 0, [233, 16, 33, 227, 0, 0, 0, 0]), (.ifCond .eq 13, 0, [98]), (.aload_n 0, 0, [0]), (.bipush 54, 54, []), (.iload 5, 0, [5]), (.invokevirtual 357, 0, [243, 16, 33, 227, 0, 3, 0, 0]), (.pop, 0, []), (.return_, 0, [])]
def s454_98 : List E := [(.iinc 5 1, 1, [5]), (.goto (-40), 0, [61])]
def s454_104 : List E := [(.iconst 0, 0, []), (.istore 5, 0, [5]), (.nop, 0, [107])]
def s454_107 : List E := [(.iload 5, 0, [5]), (.i2l, 0, []), (.lload_n 1, 0, [1]), (.lcmp, 0, []), (.ifCond .ge 37, 0, [149]), (.aload_n 0, 0, [0]), (.getfield 22, 3, [16, 4, 83, 1]), (.iload 5, 0, [5]), (.aload_n 0, 0, [0]), (.getfield 8, 1, [16, 0, 83, 1]), (.sipush 16000, 16000, []), (.aload_n 0, 0, [0]), (.getfield 1173, 0, [16, 139, 0]), (.imul, 0, []), (.aload_n 0, 0, [0]), (.getfield 1176, 0, [16, 140, 0]), (.iadd, 0, []), (.iload 5, 0, [5]), (.iadd, 0, []), (.baload, 0, [41]), (.bastore, 0, [41]), (.iinc 5 1, 1, [5]), (.goto (-39), 0, [107])]
def s454_149 : List E := [(.aload_n 0, 0, [0]), (.bipush 8, 8, []), (.lload_n 1, 0, [1]), (.l2i, 0, []), (.imul, 0, []), (.putfield 354, 0, [16, 5, 0]), (.aload_n 0, 0, [0]), (.invokevirtual 512, 0, [241, 16, 33, 8, 0, 100]), (.aload_n 0, 0, [0]), (.getfield 343, 0, [16, 2, 0]), (.ifCond .le 4, 0, [170]), (.return_, 0, [])]
def s454_170 : List E := [(.lconst 0, 0, []), (.lstore 5, 0, [5]), (.iconst 0, 0, []), (.istore 7, 0, [7]), (.nop, 0, [176])]
def s454_176 : List E := [(.iload 7, 0, [7]), (.aload_n 0, 0, [0]), (.getfield 1081, 0, [16, 128, 0]), (.if_icmp .ge 46, 0, [228]), (.aload_n 0, 0, [0]), (.getfield 317, 99, [16, 146, 81, 1]), (.iload 7, 0, [7]), (.lload 5, 0, [5]), (.ldc2_w 1205, 16000, []), (.lcmp, 0, []), (.ifCond .le 9, 0, [206]), (.ldc2_w 1205, 16000, []), (.goto 5, 0, [208])]
def s454_206 : List E := [(.lload 5, 0, [5]), (.nop, 0, [208])]
def s454_208 : List E := [(.l2i, 0, []), (.iastore, 0, []), (.lload 5, 0, [5]), (.aload_n 0, 0, [0]), (.getfield 283, 88, [16, 132, 87, 1]), (.iload 7, 0, [7]), (.laload, 0, []), (.ladd, 0, []), (.lstore 5, 0, [5]), (.iinc 7 1, 1, [7]), (.goto (-49), 0, [176])]
def s454_228 : List E := [(.lload 5, 0, [5]), (.aload_n 0, 0, [0]), (.getfield 424, 0, [16, 8, 0]), (.i2l, 0, []), (.lcmp, 0, []), (.ifCond .eq 14, 0, [250]), (.aload_n 0, 0, [0]), (.bipush 55, 55, []), (.aload_n 0, 0, [0]), (.getfield 424, 0, [16, 8, 0]), (.invokevirtual 357, 0, [243, 16, 33, 227, 0, 3, 0, 0]), (.pop, 0, []), (.nop, 0, [250])]
def s454_250 : List E := [(.return_, 0, [])]
def cd454 : List (Nat × List E) := [(0, s454_0), (52, s454_52), (61, s454_61), (98, s454_98), (104, s454_104), (107, s454_107), (149, s454_149), (170, s454_170), (176, s454_176), (206, s454_206), (208, s454_208), (228, s454_228), (250, s454_250)]
theorem l454_0 : lkc cd454 0 = s454_0 := rfl
theorem l454_52 : lkc cd454 52 = s454_52 := rfl
theorem l454_61 : lkc cd454 61 = s454_61 := rfl
theorem l454_98 : lkc cd454 98 = s454_98 := rfl
theorem l454_104 : lkc cd454 104 = s454_104 := rfl
theorem l454_107 : lkc cd454 107 = s454_107 := rfl
theorem l454_149 : lkc cd454 149 = s454_149 := rfl
theorem l454_170 : lkc cd454 170 = s454_170 := rfl
theorem l454_176 : lkc cd454 176 = s454_176 := rfl
theorem l454_206 : lkc cd454 206 = s454_206 := rfl
theorem l454_208 : lkc cd454 208 = s454_208 := rfl
theorem l454_228 : lkc cd454 228 = s454_228 := rfl
theorem l454_250 : lkc cd454 250 = s454_250 := rfl
theorem k454 : chkM 454 16 true cd454 = true := by decide +kernel
/- FontHouseModel.bodiesOf()V -/
def s455_0 : List E := [(.iconst 0, 0, []), (.istore_n 1, 0, [1]), (.nop, 0, [2])]
def s455_2 : List E := [(.iload_n 1, 0, [1]), (.aload_n 0, 0, [0]), (.getfield 1081, 0, [16, 128, 0]), (.if_icmp .ge 16, 0, [23]), (.aload_n 0, 0, [0]), (.getfield 314, 98, [16, 145, 81, 1]), (.iload_n 1, 0, [1]), (.iconst (-1), -1, []), (.iastore, 0, []), (.iinc 1 1, 1, [1]), (.goto (-18), 0, [2])]
def s455_23 : List E := [(.iconst 0, 0, []), (.istore_n 1, 0, [1]), (.nop, 0, [25])]
def s455_25 : List E := [(.iload_n 1, 0, [1]), (.aload_n 0, 0, [0]), (.getfield 1081, 0, [16, 128, 0]), (.if_icmp .ge 43, 0, [73]), (.aload_n 0, 0, [0]), (.getfield 343, 0, [16, 2, 0]), (.ifCond .ne 36, 0, [73]), (.aload_n 0, 0, [0]), (.getfield 274, 85, [16, 129, 87, 1]), (.iload_n 1, 0, [1]), (.laload, 0, []), (.ldc2_w 666, 1735162214, []), (.lcmp, 0, []), (.ifCond .ne 17, 0, [67]), (.aload_n 0, 0, [0]), (.getfield 277, 86, [16, 130, 81, 1]), (.iload_n 1, 0, [1]), (.iaload, 0, []), (.ifCond .ne 8, 0, [67]), (.aload_n 0, 0, [0]), (.iload_n 1, 0, [1]), (.invokevirtual 1247, 0, [456, 16, 33, 89, 0, 100, 0]), (.nop, 0, [67])]
def s455_67 : List E := [(.iinc 1 1, 1, [1]), (.goto (-45), 0, [25])]
def s455_73 : List E := [(.iconst 0, 0, []), (.istore_n 1, 0, [1]), (.nop, 0, [75])]
def s455_75 : List E := [(.iload_n 1, 0, [1]), (.aload_n 0, 0, [0]), (.getfield 1081, 0, [16, 128, 0]), (.if_icmp .ge 102, 0, [182]), (.aload_n 0, 0, [0]), (.getfield 343, 0, [16, 2, 0]), (.ifCond .ne 95, 0, [182]), (.aload_n 0, 0, [0]), (.aload_n 0, 0, [0]), (.getfield 274, 85, [16, 129, 87, 1]), (.iload_n 1, 0, [1]), (.laload, 0, []), (.aload_n 0, 0, [0]), (.getfield 277, 86, [16, 130, 81, 1]), (.iload_n 1, 0, [1]), (.iaload, 0, []), (.invokevirtual 1145, 0, [440, 16, 33, 235, 0, 3, 0, 5]), (.ifCond .ne 70, 0, [176]), (.aload_n 0, 0, [0]), (.getfield 314, 98, [16, 145, 81, 1]), (.iload_n 1, 0, [1]), (.aload_n 0, 0, [0]), (.aload_n 0, 0, [0]), (.getfield 280, 87, [16, 131, 87, 1]), (.iload_n 1, 0, [1]), (.laload, 0, []), (.l2i, 0, []), (.invokevirtual 621, 0, [316, 16, 33, 235, 0, 0, 0]), (.iastore, 0, []), (.iconst 0, 0, []), (.istore_n 2, 0, [2]), (.nop, 0, [128])]
def s455_128 : List E := [(.iload_n 2, 0, [2]), (.i2l, 0, []), (.aload_n 0, 0, [0]), (.getfield 280, 87, [16, 131, 87, 1]), (.iload_n 1, 0, [1]), (.laload, 0, []), (.lcmp, 0, []), (.ifCond .ge 39, 0, [176]), (.aload_n 0, 0, [0]), (.getfield 123, 35, [16, 50, 83, 1]), (.sipush 12000, 12000, []), (.aload_n 0, 0, [0]), (.getfield 314, 98, [16, 145, 81, 1]), (.iload_n 1, 0, [1]), (.iaload, 0, []), (.imul, 0, []), (.iload_n 2, 0, [2]), (.iadd, 0, []), (.aload_n 0, 0, [0]), (.getfield 25, 4, [16, 7, 83, 1]), (.aload_n 0, 0, [0]), (.getfield 317, 99, [16, 146, 81, 1]), (.iload_n 1, 0, [1]), (.iaload, 0, []), (.iload_n 2, 0, [2]), (.iadd, 0, []), (.baload, 0, [41]), (.bastore, 0, [41]), (.iinc 2 1, 1, [2]), (.goto (-45), 0, [128])]
def s455_176 : List E := [(.iinc 1 1, 1, [1]), (.goto (-104), 0, [75])]
def s455_182 : List E := [(.iconst 0, 0, []), (.istore_n 1, 0, [1]), (.nop, 0, [184])]
def s455_184 : List E := [(.iload_n 1, 0, [1]), (.iconst 4, 4, []), (.if_icmp .ge 107, 0, [293]), (.aload_n 0, 0, [0]), (.getfield 132, 38, [16, 53, 89, 1]), (.iload_n 1, 0, [1]), (.iload_n 1, 0, [1]), (.aload_n 0, 0, [0]), (.getfield 1192, 0, [16, 141, 0]), (.if_icmp .ge 7, 0, [206]), (.iconst 1, 1, []), (.goto 4, 0, [207])]
def s455_206 : List E := [(.iconst 0, 0, []), (.nop, 0, [207])]
def s455_207 : List E := [(.bastore, 0, []), (.aload_n 0, 0, [0]), (.getfield 138, 40, [16, 55, 81, 1]), (.iload_n 1, 0, [1]), (.iconst 0, 0, []), (.iastore, 0, []), (.iconst 0, 0, []), (.istore_n 2, 0, [2]), (.nop, 0, [217])]
def s455_217 : List E := [(.aload_n 0, 0, [0]), (.getfield 132, 38, [16, 53, 89, 1]), (.iload_n 1, 0, [1]), (.baload, 0, [44]), (.ifCond .eq 64, 0, [287]), (.iload_n 2, 0, [2]), (.aload_n 0, 0, [0]), (.getfield 305, 95, [16, 142, 81, 1]), (.iload_n 1, 0, [1]), (.iaload, 0, []), (.if_icmp .ge 54, 0, [287]), (.aload_n 0, 0, [0]), (.getfield 343, 0, [16, 2, 0]), (.ifCond .ne 47, 0, [287]), (.aload_n 0, 0, [0]), (.getfield 311, 97, [16, 144, 81, 1]), (.bipush 16, 16, []), (.iload_n 1, 0, [1]), (.imul, 0, []), (.iload_n 2, 0, [2]), (.iadd, 0, []), (.iaload, 0, []), (.istore_n 3, 0, [3]), (.aload_n 0, 0, [0]), (.getfield 314, 98, [16, 145, 81, 1]), (.iload_n 3, 0, [3]), (.iaload, 0, []), (.ifCond .lt 20, 0, [281]), (.aload_n 0, 0, [0]), (.iload_n 1, 0, [1]), (.aload_n 0, 0, [0]), (.getfield 274, 85, [16, 129, 87, 1]), (.iload_n 3, 0, [3]), (.laload, 0, []), (.aload_n 0, 0, [0]), (.getfield 314, 98, [16, 145, 81, 1]), (.iload_n 3, 0, [3]), (.iaload, 0, []), (.invokevirtual 658, 0, [319, 16, 33, 209, 0, 100, 0, 5, 0]), (.nop, 0, [281])]
def s455_281 : List E := [(.iinc 2 1, 1, [2]), (.goto (-67), 0, [217])]
def s455_287 : List E := [(.iinc 1 1, 1, [1]), (.goto (-106), 0, [184])]
def s455_293 : List E := [(.iconst 0, 0, []), (.istore_n 1, 0, [1]), (.nop, 0, [295])]
def s455_295 : List E := [(.iload_n 1, 0, [1]), (.aload_n 0, 0, [0]), (.getfield 1081, 0, [16, 128, 0]), (.if_icmp .ge 44, 0, [344]), (.aload_n 0, 0, [0]), (.getfield 343, 0, [16, 2, 0]), (.ifCond .ne 37, 0, [344]), (.aload_n 0, 0, [0]), (.getfield 274, 85, [16, 129, 87, 1]), (.iload_n 1, 0, [1]), (.laload, 0, []), (.ldc2_w 668, 1752003704, []), (.lcmp, 0, []), (.ifCond .ne 18, 0, [338]), (.aload_n 0, 0, [0]), (.getfield 277, 86, [16, 130, 81, 1]), (.iload_n 1, 0, [1]), (.iaload, 0, []), (.iconst 1, 1, []), (.if_icmp .ne 8, 0, [338]), (.aload_n 0, 0, [0]), (.iload_n 1, 0, [1]), (.invokevirtual 1250, 0, [467, 16, 33, 8, 0, 100, 0]), (.nop, 0, [338])]
def s455_338 : List E := [(.iinc 1 1, 1, [1]), (.goto (-46), 0, [295])]
def s455_344 : List E := [(.return_, 0, [])]
def cd455 : List (Nat × List E) := [(0, s455_0), (2, s455_2), (23, s455_23), (25, s455_25), (67, s455_67), (73, s455_73), (75, s455_75), (128, s455_128), (176, s455_176), (182, s455_182), (184, s455_184), (206, s455_206), (207, s455_207), (217, s455_217), (281, s455_281), (287, s455_287), (293, s455_293), (295, s455_295), (338, s455_338), (344, s455_344)]
theorem l455_0 : lkc cd455 0 = s455_0 := rfl
theorem l455_2 : lkc cd455 2 = s455_2 := rfl
theorem l455_23 : lkc cd455 23 = s455_23 := rfl
theorem l455_25 : lkc cd455 25 = s455_25 := rfl
theorem l455_67 : lkc cd455 67 = s455_67 := rfl
theorem l455_73 : lkc cd455 73 = s455_73 := rfl
theorem l455_75 : lkc cd455 75 = s455_75 := rfl
theorem l455_128 : lkc cd455 128 = s455_128 := rfl
theorem l455_176 : lkc cd455 176 = s455_176 := rfl
theorem l455_182 : lkc cd455 182 = s455_182 := rfl
theorem l455_184 : lkc cd455 184 = s455_184 := rfl
theorem l455_206 : lkc cd455 206 = s455_206 := rfl
theorem l455_207 : lkc cd455 207 = s455_207 := rfl
theorem l455_217 : lkc cd455 217 = s455_217 := rfl
theorem l455_281 : lkc cd455 281 = s455_281 := rfl
theorem l455_287 : lkc cd455 287 = s455_287 := rfl
theorem l455_293 : lkc cd455 293 = s455_293 := rfl
theorem l455_295 : lkc cd455 295 = s455_295 := rfl
theorem l455_338 : lkc cd455 338 = s455_338 := rfl
theorem l455_344 : lkc cd455 344 = s455_344 := rfl
theorem k455 : chkM 455 16 true cd455 = true := by decide +kernel
/- FontHouseModel.turnBack(I)V -/
def s456_0 : List E := [(.aload_n 0, 0, [0]), (.getfield 317, 99, [16, 146, 81, 1]), (.iload_n 1, 0, [1]), (.iaload, 0, []), (.istore_n 2, 0, [2]), (.aload_n 0, 0, [0]), (.getfield 283, 88, [16, 132, 87, 1]), (.iload_n 1, 0, [1]), (.laload, 0, []), (.l2i, 0, []), (.istore_n 3, 0, [3]), (.ldc2_w 1240, 36, []), (.lstore 4, 0, [4]), (.iload_n 3, 0, [3]), (.bipush 36, 36, []), (.if_icmp .lt 57, 0, [80]), (.aload_n 0, 0, [0]), (.iload_n 2, 0, [2]), (.invokevirtual 1207, 0, [457, 16, 33, 125, 0, 0, 0]), (.ifCond .ne 49, 0, [80]), (.aload_n 0, 0, [0]), (.iload_n 2, 0, [2]), (.iconst 2, 2, []), (.iadd, 0, []), (.invokevirtual 1207, 0, [457, 16, 33, 125, 0, 0, 0]), (.iconst 1, 1, []), (.if_icmp .gt 38, 0, [80]), (.aload_n 0, 0, [0]), (.iload_n 2, 0, [2]), (.iconst 4, 4, []), (.iadd, 0, []), (.invokevirtual 1207, 0, [457, 16, 33, 125, 0, 0, 0]), (.iconst 1, 1, []), (.if_icmp .lt 27, 0, [80]), (.aload_n 0, 0, [0]), (.iload_n 2, 0, [2]), (.iconst 4, 4, []), (.iadd, 0, []), (.invokevirtual 1207, 0, [457, 16, 33, 125, 0, 0, 0]), (.bipush 64, 64, []), (.if_icmp .gt 15, 0, [80]), (.aload_n 0, 0, [0]), (.iload_n 2, 0, [2]), (.bipush 6, 6, []), (.iadd, 0, []), (.invokevirtual 1207, 0, [457, 16, 33, 125, 0, 0, 0]), (.iconst 1, 1, []), (.if_icmp .le 12, 0, [89]), (.nop, 0, [80])]
def s456_80 : List E := [(.aload_n 0, 0, [0]), (.bipush 56, 56, []), (.iload_n 1, 0, [1]), (.invokevirtual 357, 0, [243, 16, 33, 124, 0, 3, 0, 0]), (.pop, 0, []), (.return_, 0, [])]
def s456_89 : List E := [(.aload_n 0, 0, [0]), (.aload_n 0, 0, [0]), (.iload_n 2, 0, [2]), (.iconst 4, 4, []), (.iadd, 0, []), (.invokevirtual 1207, 0, [457, 16, 33, 125, 0, 0, 0]), (.putfield 782, 0, [16, 70, 0]), (.aload_n 0, 0, [0]), (.iload_n 2, 0, [2]), (.bipush 6, 6, []), (.iadd, 0, []), (.invokevirtual 1207, 0, [457, 16, 33, 125, 0, 0, 0]), (.istore 6, 0, [6]), (.aload_n 0, 0, [0]), (.iload_n 2, 0, [2]), (.iconst 2, 2, []), (.iadd, 0, []), (.invokevirtual 1207, 0, [457, 16, 33, 125, 0, 0, 0]), (.iconst 1, 1, []), (.if_icmp .ne 7, 0, [125]), (.iconst 1, 1, []), (.goto 4, 0, [126])]
def s456_125 : List E := [(.iconst 0, 0, []), (.nop, 0, [126])]
def s456_126 : List E := [(.istore 7, 0, [7]), (.iconst 0, 0, []), (.istore 8, 0, [8]), (.nop, 0, [131])]
def s456_131 : List E := [(.iload 8, 0, [8]), (.bipush 7, 7, []), (.if_icmp .ge 104, 0, [239]), (.aload_n 0, 0, [0]), (.iload_n 2, 0, [2]), (.bipush 8, 8, []), (.iadd, 0, []), (.iconst 4, 4, []), (.iload 8, 0, [8]), (.imul, 0, []), (.iadd, 0, []), (.invokevirtual 1207, 0, [457, 16, 33, 125, 0, 0, 0]), (.i2l, 0, []), (.bipush 16, 16, []), (.lshl, 0, []), (.aload_n 0, 0, [0]), (.iload_n 2, 0, [2]), (.bipush 10, 10, []), (.iadd, 0, []), (.iconst 4, 4, []), (.iload 8, 0, [8]), (.imul, 0, []), (.iadd, 0, []), (.invokevirtual 1207, 0, [457, 16, 33, 125, 0, 0, 0]), (.i2l, 0, []), (.lor, 0, []), (.lstore 9, 0, [9]), (.aload_n 0, 0, [0]), (.getfield 320, 100, [16, 147, 81, 1]), (.iload 8, 0, [8]), (.iload_n 2, 0, [2]), (.lload 4, 0, [4]), (.ldc2_w 1242, 20000, []), (.lcmp, 0, []), (.ifCond .le 9, 0, [194]), (.ldc2_w 1242, 20000, []), (.goto 5, 0, [196])]
def s456_194 : List E := [(.lload 4, 0, [4]), (.nop, 0, [196])]
def s456_196 : List E := [(.l2i, 0, []), (.iadd, 0, []), (.iastore, 0, []), (.lload 4, 0, [4]), (.lload 9, 0, [9]), (.ladd, 0, []), (.lstore 4, 0, [4]), (.aload_n 0, 0, [0]), (.getfield 323, 101, [16, 148, 81, 1]), (.iload 8, 0, [8]), (.iload_n 2, 0, [2]), (.lload 4, 0, [4]), (.ldc2_w 1242, 20000, []), (.lcmp, 0, []), (.ifCond .le 9, 0, [228]), (.ldc2_w 1242, 20000, []), (.goto 5, 0, [230])]
def s456_228 : List E := [(.lload 4, 0, [4]), (.nop, 0, [230])]
def s456_230 : List E := [(.l2i, 0, []), (.iadd, 0, []), (.iastore, 0, []), (.iinc 8 1, 1, [8]), (.goto (-105), 0, [131])]
def s456_239 : List E := [(.lload 4, 0, [4]), (.iload 7, 0, [7]), (.ifCond .eq 16, 0, [259]), (.aload_n 0, 0, [0]), (.getfield 782, 0, [16, 70, 0]), (.bipush 7, 7, []), (.iadd, 0, []), (.bipush 8, 8, []), (.idiv, 0, []), (.goto 4, 0, [260])]
def s456_259 : List E := [(.iconst 0, 0, []), (.nop, 0, [260])]
def s456_260 : List E := [(.i2l, 0, []), (.ladd, 0, []), (.iload_n 3, 0, [3]), (.i2l, 0, []), (.lcmp, 0, []), (.ifCond .eq 12, 0, [277]), (.aload_n 0, 0, [0]), (.bipush 56, 56, []), (.iload_n 1, 0, [1]), (.invokevirtual 357, 0, [243, 16, 33, 124, 0, 3, 0, 0]), (.pop, 0, []), (.return_, 0, [])]
def s456_277 : List E := [(.aload_n 0, 0, [0]), (.getfield 320, 100, [16, 147, 81, 1]), (.iconst 5, 5, []), (.iaload, 0, []), (.istore 8, 0, [8]), (.aload_n 0, 0, [0]), (.getfield 782, 0, [16, 70, 0]), (.bipush 31, 31, []), (.iadd, 0, []), (.bipush 32, 32, []), (.idiv, 0, []), (.iconst 4, 4, []), (.imul, 0, []), (.istore 9, 0, [9]), (.aload_n 0, 0, [0]), (.iconst 5, 5, []), (.iload 9, 0, [9]), (.invokevirtual 1210, 0, [458, 16, 33, 124, 0, 3, 0, 0]), (.ifCond .ne 12, 0, [318]), (.aload_n 0, 0, [0]), (.bipush 57, 57, []), (.iconst 0, 0, []), (.invokevirtual 357, 0, [243, 16, 33, 124, 0, 3, 0, 0]), (.pop, 0, []), (.return_, 0, [])]
def s456_318 : List E := [(.aload_n 0, 0, [0]), (.getfield 320, 100, [16, 147, 81, 1]), (.iconst 5, 5, []), (.dup2, 0, []), (.iaload, 0, []), (.iload 9, 0, [9]), (.iadd, 0, []), (.iastore, 0, []), (.aload_n 0, 0, [0]), (.iconst 0, 0, []), (.putfield 860, 0, [16, 96, 0]), (.iconst 0, 0, []), (.istore 10, 0, [10]), (.nop, 0, [337])]
def s456_337 : List E := [(.iload 10, 0, [10]), (.aload_n 0, 0, [0]), (.getfield 782, 0, [16, 70, 0]), (.if_icmp .ge 61, 0, [404]), (.aload_n 0, 0, [0]), (.getfield 326, 102, [16, 151, 81, 1]), (.iload 10, 0, [10]), (.aload_n 0, 0, [0]), (.getfield 860, 0, [16, 96, 0]), (.iastore, 0, []), (.aload_n 0, 0, [0]), (.iload 10, 0, [10]), (.iload 8, 0, [8]), (.iload 7, 0, [7]), (.ifCond .eq 13, 0, [377]), (.aload_n 0, 0, [0]), (.getfield 323, 101, [16, 148, 81, 1]), (.bipush 6, 6, []), (.iaload, 0, []), (.goto 4, 0, [378])]
def s456_377 : List E := [(.iconst (-1), -1, []), (.nop, 0, [378])]
def s456_378 : List E := [(.invokevirtual 1244, 0, [459, 16, 33, 8, 0, 3, 0, 0, 0]), (.ifCond .ne 13, 0, [394]), (.aload_n 0, 0, [0]), (.bipush 57, 57, []), (.iload 10, 0, [10]), (.invokevirtual 357, 0, [243, 16, 33, 124, 0, 3, 0, 0]), (.pop, 0, []), (.return_, 0, [])]
def s456_394 : List E := [(.aload_n 0, 0, [0]), (.invokevirtual 948, 0, [406, 16, 33, 39, 0, 100]), (.iinc 10 1, 1, [10]), (.goto (-64), 0, [337])]
def s456_404 : List E := [(.aload_n 0, 0, [0]), (.getfield 326, 102, [16, 151, 81, 1]), (.aload_n 0, 0, [0]), (.getfield 782, 0, [16, 70, 0]), (.aload_n 0, 0, [0]), (.getfield 860, 0, [16, 96, 0]), (.iastore, 0, []), (.iconst 0, 0, []), (.istore 10, 0, [10]), (.nop, 0, [420])]
def s456_420 : List E := [(.iload 10, 0, [10]), (.bipush 7, 7, []), (.if_icmp .ge 36, 0, [460]), (.aload_n 0, 0, [0]), (.getfield 320, 100, [16, 147, 81, 1]), (.iload 10, 0, [10]), (.iaload, 0, []), (.aload_n 0, 0, [0]), (.getfield 323, 101, [16, 148, 81, 1]), (.iload 10, 0, [10]), (.iaload, 0, []), (.if_icmp .ge 13, 0, [454]), (.aload_n 0, 0, [0]), (.bipush 58, 58, []), (.iload 10, 0, [10]), (.invokevirtual 357, 0, [243, 16, 33, 124, 0, 3, 0, 0]), (.pop, 0, []), (.return_, 0, [])]
def s456_454 : List E := [(.iinc 10 1, 1, [10]), (.goto (-37), 0, [420])]
def s456_460 : List E := [(.aload_n 0, 0, [0]), (.getfield 782, 0, [16, 70, 0]), (.iconst 1, 1, []), (.iadd, 0, []), (.iload 6, 0, [6]), (.ifCond .ne 7, 0, [475]), (.iconst 2, 2, []), (.goto 4, 0, [476])]
def s456_475 : List E := [(.iconst 4, 4, []), (.nop, 0, [476])]
def s456_476 : List E := [(.imul, 0, []), (.istore 10, 0, [10]), (.aload_n 0, 0, [0]), (.getfield 860, 0, [16, 96, 0]), (.sipush 12000, 12000, []), (.if_icmp .gt 18, 0, [504]), (.aload_n 0, 0, [0]), (.getfield 280, 87, [16, 131, 87, 1]), (.iload_n 1, 0, [1]), (.iconst 1, 1, []), (.iadd, 0, []), (.laload, 0, []), (.iload 10, 0, [10]), (.i2l, 0, []), (.lcmp, 0, []), (.ifCond .eq 12, 0, [513]), (.nop, 0, [504])]
def s456_504 : List E := [(.aload_n 0, 0, [0]), (.bipush 59, 59, []), (.iload_n 1, 0, [1]), (.invokevirtual 357, 0, [243, 16, 33, 124, 0, 3, 0, 0]), (.pop, 0, []), (.return_, 0, [])]
def s456_513 : List E := [(.aload_n 0, 0, [0]), (.getfield 314, 98, [16, 145, 81, 1]), (.iload_n 1, 0, [1]), (.aload_n 0, 0, [0]), (.aload_n 0, 0, [0]), (.getfield 860, 0, [16, 96, 0]), (.invokevirtual 621, 0, [316, 16, 33, 123, 0, 0, 0]), (.iastore, 0, []), (.iconst 0, 0, []), (.istore 11, 0, [11]), (.nop, 0, [530])]
def s456_530 : List E := [(.iload 11, 0, [11]), (.aload_n 0, 0, [0]), (.getfield 860, 0, [16, 96, 0]), (.if_icmp .ge 34, 0, [570]), (.aload_n 0, 0, [0]), (.getfield 123, 35, [16, 50, 83, 1]), (.sipush 12000, 12000, []), (.aload_n 0, 0, [0]), (.getfield 314, 98, [16, 145, 81, 1]), (.iload_n 1, 0, [1]), (.iaload, 0, []), (.imul, 0, []), (.iload 11, 0, [11]), (.iadd, 0, []), (.aload_n 0, 0, [0]), (.getfield 214, 65, [16, 95, 83, 1]), (.iload 11, 0, [11]), (.baload, 0, [41]), (.bastore, 0, [41]), (.iinc 11 1, 1, [11]), (.goto (-37), 0, [530])]
def s456_570 : List E := [(.aload_n 0, 0, [0]), (.getfield 314, 98, [16, 145, 81, 1]), (.iload_n 1, 0, [1]), (.iconst 1, 1, []), (.iadd, 0, []), (.aload_n 0, 0, [0]), (.iload 10, 0, [10]), (.invokevirtual 621, 0, [316, 16, 33, 123, 0, 0, 0]), (.iastore, 0, []), (.iconst 0, 0, []), (.istore 11, 0, [11]), (.nop, 0, [587])]
def s456_587 : List E := [(.iload 11, 0, [11]), (.aload_n 0, 0, [0]), (.getfield 782, 0, [16, 70, 0]), (.if_icmp .gt 33, 0, [626]), (.aload_n 0, 0, [0]), (.aload_n 0, 0, [0]), (.getfield 314, 98, [16, 145, 81, 1]), (.iload_n 1, 0, [1]), (.iconst 1, 1, []), (.iadd, 0, []), (.iaload, 0, []), (.iload 6, 0, [6]), (.iload 11, 0, [11]), (.aload_n 0, 0, [0]), (.getfield 326, 102, [16, 151, 81, 1]), (.iload 11, 0, [11]), (.iaload, 0, []), (.i2l, 0, []), (.invokevirtual 912, 0, [393, 16, 33, 74, 0, 100, 5, 0, 0, 0]), (.iinc 11 1, 1, [11]), (.goto (-36), 0, [587])]
def s456_626 : List E := [(.return_, 0, [])]
def cd456 : List (Nat × List E) := [(0, s456_0), (80, s456_80), (89, s456_89), (125, s456_125), (126, s456_126), (131, s456_131), (194, s456_194), (196, s456_196), (228, s456_228), (230, s456_230), (239, s456_239), (259, s456_259), (260, s456_260), (277, s456_277), (318, s456_318), (337, s456_337), (377, s456_377), (378, s456_378), (394, s456_394), (404, s456_404), (420, s456_420), (454, s456_454), (460, s456_460), (475, s456_475), (476, s456_476), (504, s456_504), (513, s456_513), (530, s456_530), (570, s456_570), (587, s456_587), (626, s456_626)]
theorem l456_0 : lkc cd456 0 = s456_0 := rfl
theorem l456_80 : lkc cd456 80 = s456_80 := rfl
theorem l456_89 : lkc cd456 89 = s456_89 := rfl
theorem l456_125 : lkc cd456 125 = s456_125 := rfl
theorem l456_126 : lkc cd456 126 = s456_126 := rfl
theorem l456_131 : lkc cd456 131 = s456_131 := rfl
theorem l456_194 : lkc cd456 194 = s456_194 := rfl
theorem l456_196 : lkc cd456 196 = s456_196 := rfl
theorem l456_228 : lkc cd456 228 = s456_228 := rfl
theorem l456_230 : lkc cd456 230 = s456_230 := rfl
theorem l456_239 : lkc cd456 239 = s456_239 := rfl
theorem l456_259 : lkc cd456 259 = s456_259 := rfl
theorem l456_260 : lkc cd456 260 = s456_260 := rfl
theorem l456_277 : lkc cd456 277 = s456_277 := rfl
theorem l456_318 : lkc cd456 318 = s456_318 := rfl
theorem l456_337 : lkc cd456 337 = s456_337 := rfl
theorem l456_377 : lkc cd456 377 = s456_377 := rfl
theorem l456_378 : lkc cd456 378 = s456_378 := rfl
theorem l456_394 : lkc cd456 394 = s456_394 := rfl
theorem l456_404 : lkc cd456 404 = s456_404 := rfl
theorem l456_420 : lkc cd456 420 = s456_420 := rfl
theorem l456_454 : lkc cd456 454 = s456_454 := rfl
theorem l456_460 : lkc cd456 460 = s456_460 := rfl
theorem l456_475 : lkc cd456 475 = s456_475 := rfl
theorem l456_476 : lkc cd456 476 = s456_476 := rfl
theorem l456_504 : lkc cd456 504 = s456_504 := rfl
theorem l456_513 : lkc cd456 513 = s456_513 := rfl
theorem l456_530 : lkc cd456 530 = s456_530 := rfl
theorem l456_570 : lkc cd456 570 = s456_570 := rfl
theorem l456_587 : lkc cd456 587 = s456_587 := rfl
theorem l456_626 : lkc cd456 626 = s456_626 := rfl
theorem k456 : chkM 456 16 true cd456 = true := by decide +kernel
/- FontHouseModel.outTwo(I)I -/
def s457_0 : List E := [(.aload_n 0, 0, [0]), (.getfield 25, 4, [16, 7, 83, 1]), (.iload_n 1, 0, [1]), (.baload, 0, [41]), (.sipush 255, 255, []), (.iand, 0, []), (.bipush 8, 8, []), (.ishl, 0, []), (.aload_n 0, 0, [0]), (.getfield 25, 4, [16, 7, 83, 1]), (.iload_n 1, 0, [1]), (.iconst 1, 1, []), (.iadd, 0, []), (.baload, 0, [41]), (.sipush 255, 255, []), (.iand, 0, []), (.ior, 0, []), (.ireturn, 0, [])]
def cd457 : List (Nat × List E) := [(0, s457_0)]
theorem l457_0 : lkc cd457 0 = s457_0 := rfl
theorem k457 : chkM 457 16 true cd457 = true := by decide +kernel
/- FontHouseModel.tHas(II)Z -/
def s458_0 : List E := [(.aload_n 0, 0, [0]), (.getfield 323, 101, [16, 148, 81, 1]), (.iload_n 1, 0, [1]), (.iaload, 0, []), (.aload_n 0, 0, [0]), (.getfield 320, 100, [16, 147, 81, 1]), (.iload_n 1, 0, [1]), (.iaload, 0, []), (.isub, 0, []), (.iload_n 2, 0, [2]), (.if_icmp .lt 7, 0, [21]), (.iconst 1, 1, []), (.goto 4, 0, [22])]
def s458_21 : List E := [(.iconst 0, 0, []), (.nop, 0, [22])]
def s458_22 : List E := [(.ireturn, 0, [1])]
def cd458 : List (Nat × List E) := [(0, s458_0), (21, s458_21), (22, s458_22)]
theorem l458_0 : lkc cd458 0 = s458_0 := rfl
theorem l458_21 : lkc cd458 21 = s458_21 := rfl
theorem l458_22 : lkc cd458 22 = s458_22 := rfl
theorem k458 : chkM 458 16 true cd458 = true := by decide +kernel
/- FontHouseModel.tGlyph(III)Z -/
def s459_0 : List E := [(.aload_n 0, 0, [0]), (.invokevirtual 826, 0, [365, 16, 33, 100, 0, 100]), (.aload_n 0, 0, [0]), (.iconst 0, 0, []), (.iconst 2, 2, []), (.invokevirtual 1210, 0, [458, 16, 33, 99, 0, 3, 0, 0]), (.ifCond .ne 5, 0, [15]), (.iconst 0, 0, []), (.ireturn, 0, [1])]
def s459_15 : List E := [(.aload_n 0, 0, [0]), (.aload_n 0, 0, [0]), (.iconst 0, 0, []), (.invokevirtual 1216, 0, [460, 16, 33, 79, 0, 0, 0]), (.i2s, 0, []), (.putfield 808, 0, [16, 73, 0]), (.aload_n 0, 0, [0]), (.getfield 808, 0, [16, 73, 0]), (.iconst (-1), -1, []), (.if_icmp .lt 12, 0, [42]), (.aload_n 0, 0, [0]), (.getfield 808, 0, [16, 73, 0]), (.bipush 32, 32, []), (.if_icmp .le 5, 0, [44]), (.nop, 0, [42])]
def s459_42 : List E := [(.iconst 0, 0, []), (.ireturn, 0, [1])]
def s459_44 : List E := [(.aload_n 0, 0, [0]), (.getfield 808, 0, [16, 73, 0]), (.ifCond .le 10, 0, [58]), (.aload_n 0, 0, [0]), (.invokevirtual 1234, 0, [461, 16, 33, 10, 0, 3]), (.ifCond .eq 17, 0, [72]), (.nop, 0, [58])]
def s459_58 : List E := [(.aload_n 0, 0, [0]), (.getfield 808, 0, [16, 73, 0]), (.ifCond .ge 12, 0, [74]), (.aload_n 0, 0, [0]), (.invokevirtual 1237, 0, [466, 16, 33, 8, 0, 3]), (.ifCond .ne 5, 0, [74]), (.nop, 0, [72])]
def s459_72 : List E := [(.iconst 0, 0, []), (.ireturn, 0, [1])]
def s459_74 : List E := [(.aload_n 0, 0, [0]), (.getfield 25, 4, [16, 7, 83, 1]), (.iload_n 2, 0, [2]), (.iload_n 1, 0, [1]), (.bipush 8, 8, []), (.idiv, 0, []), (.iadd, 0, []), (.baload, 0, [41]), (.bipush 7, 7, []), (.iload_n 1, 0, [1]), (.bipush 8, 8, []), (.irem, 0, []), (.isub, 0, []), (.ishr, 0, []), (.iconst 1, 1, []), (.iand, 0, []), (.iconst 1, 1, []), (.if_icmp .ne 7, 0, [103]), (.iconst 1, 1, []), (.goto 4, 0, [104])]
def s459_103 : List E := [(.iconst 0, 0, []), (.nop, 0, [104])]
def s459_104 : List E := [(.istore 4, 0, [4]), (.aload_n 0, 0, [0]), (.getfield 808, 0, [16, 73, 0]), (.ifCond .ne 8, 0, [118]), (.iload 4, 0, [4]), (.ifCond .ne 30, 0, [145]), (.nop, 0, [118])]
def s459_118 : List E := [(.aload_n 0, 0, [0]), (.getfield 808, 0, [16, 73, 0]), (.ifCond .ge 8, 0, [130]), (.iload 4, 0, [4]), (.ifCond .eq 18, 0, [145]), (.nop, 0, [130])]
def s459_130 : List E := [(.iload 4, 0, [4]), (.ifCond .eq 15, 0, [147]), (.aload_n 0, 0, [0]), (.iconst 5, 5, []), (.bipush 8, 8, []), (.invokevirtual 1210, 0, [458, 16, 33, 99, 0, 3, 0, 0]), (.ifCond .ne 5, 0, [147]), (.nop, 0, [145])]
def s459_145 : List E := [(.iconst 0, 0, []), (.ireturn, 0, [1])]
def s459_147 : List E := [(.aload_n 0, 0, [0]), (.invokevirtual 940, 0, [405, 16, 33, 100, 0, 100]), (.iconst 0, 0, []), (.istore 5, 0, [5]), (.nop, 0, [154])]
def s459_154 : List E := [(.iload 5, 0, [5]), (.iconst 4, 4, []), (.if_icmp .ge 27, 0, [184]), (.iload 4, 0, [4]), (.ifCond .eq 22, 0, [184]), (.aload_n 0, 0, [0]), (.getfield 175, 52, [16, 79, 81, 1]), (.iload 5, 0, [5]), (.aload_n 0, 0, [0]), (.iconst 5, 5, []), (.invokevirtual 1216, 0, [460, 16, 33, 79, 0, 0, 0]), (.i2s, 0, []), (.iastore, 0, []), (.iinc 5 1, 1, [5]), (.goto (-27), 0, [154])]
def s459_184 : List E := [(.aload_n 0, 0, [0]), (.aload_n 0, 0, [0]), (.getfield 808, 0, [16, 73, 0]), (.ifCond .le 36, 0, [225]), (.iload_n 3, 0, [3]), (.ifCond .lt 32, 0, [225]), (.aload_n 0, 0, [0]), (.getfield 25, 4, [16, 7, 83, 1]), (.iload_n 3, 0, [3]), (.iload_n 1, 0, [1]), (.bipush 8, 8, []), (.idiv, 0, []), (.iadd, 0, []), (.baload, 0, [41]), (.bipush 7, 7, []), (.iload_n 1, 0, [1]), (.bipush 8, 8, []), (.irem, 0, []), (.isub, 0, []), (.ishr, 0, []), (.iconst 1, 1, []), (.iand, 0, []), (.iconst 1, 1, []), (.if_icmp .ne 7, 0, [225]), (.iconst 1, 1, []), (.goto 4, 0, [226])]
def s459_225 : List E := [(.iconst 0, 0, []), (.nop, 0, [226])]
def s459_226 : List E := [(.putfield 823, 0, [16, 78, 3]), (.iconst 1, 1, []), (.ireturn, 0, [1])]
def cd459 : List (Nat × List E) := [(0, s459_0), (15, s459_15), (42, s459_42), (44, s459_44), (58, s459_58), (72, s459_72), (74, s459_74), (103, s459_103), (104, s459_104), (118, s459_118), (130, s459_130), (145, s459_145), (147, s459_147), (154, s459_154), (184, s459_184), (225, s459_225), (226, s459_226)]
theorem l459_0 : lkc cd459 0 = s459_0 := rfl
theorem l459_15 : lkc cd459 15 = s459_15 := rfl
theorem l459_42 : lkc cd459 42 = s459_42 := rfl
theorem l459_44 : lkc cd459 44 = s459_44 := rfl
theorem l459_58 : lkc cd459 58 = s459_58 := rfl
theorem l459_72 : lkc cd459 72 = s459_72 := rfl
theorem l459_74 : lkc cd459 74 = s459_74 := rfl
theorem l459_103 : lkc cd459 103 = s459_103 := rfl
theorem l459_104 : lkc cd459 104 = s459_104 := rfl
theorem l459_118 : lkc cd459 118 = s459_118 := rfl
theorem l459_130 : lkc cd459 130 = s459_130 := rfl
theorem l459_145 : lkc cd459 145 = s459_145 := rfl
theorem l459_147 : lkc cd459 147 = s459_147 := rfl
theorem l459_154 : lkc cd459 154 = s459_154 := rfl
theorem l459_184 : lkc cd459 184 = s459_184 := rfl
theorem l459_225 : lkc cd459 225 = s459_225 := rfl
theorem l459_226 : lkc cd459 226 = s459_226 := rfl
theorem k459 : chkM 459 16 true cd459 = true := by decide +kernel
/- FontHouseModel.tTwo(I)I -/
def s460_0 : List E := [(.aload_n 0, 0, [0]), (.getfield 320, 100, [16, 147, 81, 1]), (.iload_n 1, 0, [1]), (.dup2, 0, []), (.iaload, 0, []), (.iconst 2, 2, []), (.iadd, 0, []), (.iastore, 0, []), (.aload_n 0, 0, [0]), (.aload_n 0, 0, [0]), (.getfield 320, 100, [16, 147, 81, 1]), (.iload_n 1, 0, [1]), (.iaload, 0, []), (.iconst 2, 2, []), (.isub, 0, []), (.invokevirtual 1207, 0, [457, 16, 33, 8, 0, 0, 0]), (.ireturn, 0, [])]
def cd460 : List (Nat × List E) := [(0, s460_0)]
theorem l460_0 : lkc cd460 0 = s460_0 := rfl
theorem k460 : chkM 460 16 true cd460 = true := by decide +kernel
/- FontHouseModel.tPoints()Z -/
def s461_0 : List E := [(.aload_n 0, 0, [0]), (.aload_n 0, 0, [0]), (.getfield 808, 0, [16, 73, 0]), (.putfield 811, 0, [16, 74, 0]), (.iconst 0, 0, []), (.istore_n 1, 0, [1]), (.iconst 0, 0, []), (.istore_n 2, 0, [2]), (.nop, 0, [12])]
def s461_12 : List E := [(.iload_n 2, 0, [2]), (.aload_n 0, 0, [0]), (.getfield 811, 0, [16, 74, 0]), (.if_icmp .ge 44, 0, [61]), (.aload_n 0, 0, [0]), (.iconst 1, 1, []), (.invokevirtual 1219, 0, [462, 16, 33, 30, 0, 0, 0]), (.istore_n 3, 0, [3]), (.iload_n 3, 0, [3]), (.iconst 1, 1, []), (.if_icmp .lt 12, 0, [40]), (.iload_n 1, 0, [1]), (.iload_n 3, 0, [3]), (.iadd, 0, []), (.sipush 256, 256, []), (.if_icmp .le 5, 0, [42]), (.nop, 0, [40])]
def s461_40 : List E := [(.iconst 0, 0, []), (.ireturn, 0, [1])]
def s461_42 : List E := [(.iload_n 1, 0, [1]), (.iload_n 3, 0, [3]), (.iadd, 0, []), (.istore_n 1, 0, [1]), (.aload_n 0, 0, [0]), (.getfield 178, 53, [16, 80, 81, 1]), (.iload_n 2, 0, [2]), (.iload_n 1, 0, [1]), (.iconst 1, 1, []), (.isub, 0, []), (.iastore, 0, []), (.iinc 2 1, 1, [2]), (.goto (-46), 0, [12])]
def s461_61 : List E := [(.iconst 0, 0, []), (.istore_n 2, 0, [2]), (.iconst 0, 0, []), (.istore_n 3, 0, [3]), (.iconst 0, 0, []), (.istore 4, 0, [4]), (.nop, 0, [68])]
def s461_68 : List E := [(.iload 4, 0, [4]), (.iload_n 1, 0, [1]), (.if_icmp .ge 127, 0, [198]), (.aload_n 0, 0, [0]), (.iconst 2, 2, []), (.iconst 1, 1, []), (.invokevirtual 1210, 0, [458, 16, 33, 72, 0, 3, 0, 0]), (.ifCond .ne 5, 0, [85]), (.iconst 0, 0, []), (.ireturn, 0, [1])]
def s461_85 : List E := [(.aload_n 0, 0, [0]), (.iconst 2, 2, []), (.invokevirtual 1213, 0, [463, 16, 33, 73, 0, 0, 0]), (.istore 5, 0, [5]), (.aload_n 0, 0, [0]), (.iload 5, 0, [5]), (.bipush 127, 127, []), (.iand, 0, []), (.invokevirtual 1228, 0, [464, 16, 33, 25, 0, 3, 0]), (.ifCond .ne 5, 0, [106]), (.iconst 0, 0, []), (.ireturn, 0, [1])]
def s461_106 : List E := [(.iload_n 2, 0, [2]), (.aload_n 0, 0, [0]), (.getfield 1222, 0, [16, 149, 0]), (.iadd, 0, []), (.istore_n 2, 0, [2]), (.iload_n 3, 0, [3]), (.aload_n 0, 0, [0]), (.getfield 1225, 0, [16, 150, 0]), (.iadd, 0, []), (.istore_n 3, 0, [3]), (.aload_n 0, 0, [0]), (.getfield 1222, 0, [16, 149, 0]), (.invokestatic 937, 0, [396, 74, 0, 3, 0]), (.ifCond .eq 27, 0, [154]), (.aload_n 0, 0, [0]), (.getfield 1225, 0, [16, 150, 0]), (.invokestatic 937, 0, [396, 74, 0, 3, 0]), (.ifCond .eq 17, 0, [154]), (.iload_n 2, 0, [2]), (.invokestatic 937, 0, [396, 74, 0, 3, 0]), (.ifCond .eq 10, 0, [154]), (.iload_n 3, 0, [3]), (.invokestatic 937, 0, [396, 74, 0, 3, 0]), (.ifCond .ne 5, 0, [156]), (.nop, 0, [154])]
def s461_154 : List E := [(.iconst 0, 0, []), (.ireturn, 0, [1])]
def s461_156 : List E := [(.aload_n 0, 0, [0]), (.getfield 181, 54, [16, 81, 81, 1]), (.iload 4, 0, [4]), (.iload_n 2, 0, [2]), (.iastore, 0, []), (.aload_n 0, 0, [0]), (.getfield 184, 55, [16, 82, 81, 1]), (.iload 4, 0, [4]), (.iload_n 3, 0, [3]), (.iastore, 0, []), (.aload_n 0, 0, [0]), (.getfield 187, 56, [16, 83, 89, 1]), (.iload 4, 0, [4]), (.iload 5, 0, [5]), (.sipush 128, 128, []), (.if_icmp .ge 7, 0, [190]), (.iconst 1, 1, []), (.goto 4, 0, [191])]
def s461_190 : List E := [(.iconst 0, 0, []), (.nop, 0, [191])]
def s461_191 : List E := [(.bastore, 0, []), (.iinc 4 1, 1, [4]), (.goto (-127), 0, [68])]
def s461_198 : List E := [(.aload_n 0, 0, [0]), (.iload_n 1, 0, [1]), (.putfield 814, 0, [16, 75, 0]), (.aload_n 0, 0, [0]), (.invokevirtual 1231, 0, [465, 16, 33, 8, 0, 3]), (.ireturn, 0, [1])]
def cd461 : List (Nat × List E) := [(0, s461_0), (12, s461_12), (40, s461_40), (42, s461_42), (61, s461_61), (68, s461_68), (85, s461_85), (106, s461_106), (154, s461_154), (156, s461_156), (190, s461_190), (191, s461_191), (198, s461_198)]
theorem l461_0 : lkc cd461 0 = s461_0 := rfl
theorem l461_12 : lkc cd461 12 = s461_12 := rfl
theorem l461_40 : lkc cd461 40 = s461_40 := rfl
theorem l461_42 : lkc cd461 42 = s461_42 := rfl
theorem l461_61 : lkc cd461 61 = s461_61 := rfl
theorem l461_68 : lkc cd461 68 = s461_68 := rfl
theorem l461_85 : lkc cd461 85 = s461_85 := rfl
theorem l461_106 : lkc cd461 106 = s461_106 := rfl
theorem l461_154 : lkc cd461 154 = s461_154 := rfl
theorem l461_156 : lkc cd461 156 = s461_156 := rfl
theorem l461_190 : lkc cd461 190 = s461_190 := rfl
theorem l461_191 : lkc cd461 191 = s461_191 := rfl
theorem l461_198 : lkc cd461 198 = s461_198 := rfl
theorem k461 : chkM 461 16 true cd461 = true := by decide +kernel
/- FontHouseModel.tShort(I)I -/
def s462_0 : List E := [(.aload_n 0, 0, [0]), (.iload_n 1, 0, [1]), (.iconst 1, 1, []), (.invokevirtual 1210, 0, [458, 16, 33, 28, 0, 3, 0, 0]), (.ifCond .ne 5, 0, [11]), (.iconst (-1), -1, []), (.ireturn, 0, [])]
def s462_11 : List E := [(.aload_n 0, 0, [0]), (.iload_n 1, 0, [1]), (.invokevirtual 1213, 0, [463, 16, 33, 29, 0, 0, 0]), (.istore_n 2, 0, [2]), (.iload_n 2, 0, [2]), (.sipush 253, 253, []), (.if_icmp .ge 5, 0, [26]), (.iload_n 2, 0, [2]), (.ireturn, 0, [])]
def s462_26 : List E := [(.aload_n 0, 0, [0]), (.iload_n 1, 0, [1]), (.iload_n 2, 0, [2]), (.sipush 253, 253, []), (.if_icmp .ne 7, 0, [39]), (.iconst 2, 2, []), (.goto 4, 0, [40])]
def s462_39 : List E := [(.iconst 1, 1, []), (.nop, 0, [40])]
def s462_40 : List E := [(.invokevirtual 1210, 0, [458, 16, 33, 28, 0, 3, 0, 0]), (.ifCond .ne 5, 0, [48]), (.iconst (-1), -1, []), (.ireturn, 0, [])]
def s462_48 : List E := [(.iload_n 2, 0, [2]), (.sipush 253, 253, []), (.if_icmp .ne 11, 0, [63]), (.aload_n 0, 0, [0]), (.iload_n 1, 0, [1]), (.invokevirtual 1216, 0, [460, 16, 33, 8, 0, 0, 0]), (.goto 25, 0, [85])]
def s462_63 : List E := [(.iload_n 2, 0, [2]), (.sipush 255, 255, []), (.if_icmp .ne 9, 0, [76]), (.sipush 253, 253, []), (.goto 6, 0, [79])]
def s462_76 : List E := [(.sipush 506, 506, []), (.nop, 0, [79])]
def s462_79 : List E := [(.aload_n 0, 0, [0]), (.iload_n 1, 0, [1]), (.invokevirtual 1213, 0, [463, 16, 33, 29, 0, 0, 0]), (.iadd, 0, []), (.nop, 0, [85])]
def s462_85 : List E := [(.ireturn, 0, [])]
def cd462 : List (Nat × List E) := [(0, s462_0), (11, s462_11), (26, s462_26), (39, s462_39), (40, s462_40), (48, s462_48), (63, s462_63), (76, s462_76), (79, s462_79), (85, s462_85)]
theorem l462_0 : lkc cd462 0 = s462_0 := rfl
theorem l462_11 : lkc cd462 11 = s462_11 := rfl
theorem l462_26 : lkc cd462 26 = s462_26 := rfl
theorem l462_39 : lkc cd462 39 = s462_39 := rfl
theorem l462_40 : lkc cd462 40 = s462_40 := rfl
theorem l462_48 : lkc cd462 48 = s462_48 := rfl
theorem l462_63 : lkc cd462 63 = s462_63 := rfl
theorem l462_76 : lkc cd462 76 = s462_76 := rfl
theorem l462_79 : lkc cd462 79 = s462_79 := rfl
theorem l462_85 : lkc cd462 85 = s462_85 := rfl
theorem k462 : chkM 462 16 true cd462 = true := by decide +kernel
/- FontHouseModel.tByte(I)I -/
def s463_0 : List E := [(.aload_n 0, 0, [0]), (.getfield 320, 100, [16, 147, 81, 1]), (.iload_n 1, 0, [1]), (.dup2, 0, []), (.iaload, 0, []), (.iconst 1, 1, []), (.iadd, 0, []), (.iastore, 0, []), (.aload_n 0, 0, [0]), (.getfield 25, 4, [16, 7, 83, 1]), (.aload_n 0, 0, [0]), (.getfield 320, 100, [16, 147, 81, 1]), (.iload_n 1, 0, [1]), (.iaload, 0, []), (.iconst 1, 1, []), (.isub, 0, []), (.baload, 0, [41]), (.sipush 255, 255, []), (.iand, 0, []), (.ireturn, 0, [])]
def cd463 : List (Nat × List E) := [(0, s463_0)]
theorem l463_0 : lkc cd463 0 = s463_0 := rfl
theorem k463 : chkM 463 16 true cd463 = true := by decide +kernel
/- FontHouseModel.tWay(I)Z -/
def s464_0 : List E := [(.iload_n 1, 0, [1]), (.bipush 84, 84, []), (.if_icmp .ge 7, 0, [10]), (.iconst 1, 1, []), (.goto 24, 0, [31])]
def s464_10 : List E := [(.iload_n 1, 0, [1]), (.bipush 120, 120, []), (.if_icmp .ge 7, 0, [20]), (.iconst 2, 2, []), (.goto 14, 0, [31])]
def s464_20 : List E := [(.iload_n 1, 0, [1]), (.bipush 124, 124, []), (.if_icmp .ge 7, 0, [30]), (.iconst 3, 3, []), (.goto 4, 0, [31])]
def s464_30 : List E := [(.iconst 4, 4, []), (.nop, 0, [31])]
def s464_31 : List E := [(.istore_n 2, 0, [2]), (.aload_n 0, 0, [0]), (.iconst 3, 3, []), (.iload_n 2, 0, [2]), (.invokevirtual 1210, 0, [458, 16, 33, 28, 0, 3, 0, 0]), (.ifCond .ne 5, 0, [43]), (.iconst 0, 0, []), (.ireturn, 0, [1])]
def s464_43 : List E := [(.iload_n 1, 0, [1]), (.bipush 20, 20, []), (.if_icmp .ge 64, 0, [110]), (.iload_n 1, 0, [1]), (.bipush 10, 10, []), (.irem, 0, []), (.iconst 2, 2, []), (.idiv, 0, []), (.bipush 8, 8, []), (.ishl, 0, []), (.aload_n 0, 0, [0]), (.iconst 3, 3, []), (.invokevirtual 1213, 0, [463, 16, 33, 29, 0, 0, 0]), (.iadd, 0, []), (.istore_n 3, 0, [3]), (.iload_n 1, 0, [1]), (.iconst 1, 1, []), (.iand, 0, []), (.ifCond .ne 8, 0, [76]), (.iload_n 3, 0, [3]), (.ineg, 0, []), (.goto 4, 0, [77])]
def s464_76 : List E := [(.iload_n 3, 0, [3]), (.nop, 0, [77])]
def s464_77 : List E := [(.istore_n 3, 0, [3]), (.aload_n 0, 0, [0]), (.iload_n 1, 0, [1]), (.bipush 10, 10, []), (.if_icmp .ge 7, 0, [89]), (.iconst 0, 0, []), (.goto 4, 0, [90])]
def s464_89 : List E := [(.iload_n 3, 0, [3]), (.nop, 0, [90])]
def s464_90 : List E := [(.putfield 1222, 0, [16, 149, 0]), (.aload_n 0, 0, [0]), (.iload_n 1, 0, [1]), (.bipush 10, 10, []), (.if_icmp .ge 7, 0, [104]), (.iload_n 3, 0, [3]), (.goto 4, 0, [105])]
def s464_104 : List E := [(.iconst 0, 0, []), (.nop, 0, [105])]
def s464_105 : List E := [(.putfield 1225, 0, [16, 150, 0]), (.iconst 1, 1, []), (.ireturn, 0, [1])]
def s464_110 : List E := [(.iload_n 1, 0, [1]), (.bipush 84, 84, []), (.if_icmp .ge 61, 0, [174]), (.iload_n 1, 0, [1]), (.bipush 20, 20, []), (.isub, 0, []), (.istore 6, 0, [6]), (.aload_n 0, 0, [0]), (.iconst 3, 3, []), (.invokevirtual 1213, 0, [463, 16, 33, 29, 0, 0, 0]), (.istore 7, 0, [7]), (.iconst 1, 1, []), (.iload 6, 0, [6]), (.bipush 16, 16, []), (.idiv, 0, []), (.bipush 16, 16, []), (.imul, 0, []), (.iadd, 0, []), (.iload 7, 0, [7]), (.bipush 16, 16, []), (.idiv, 0, []), (.iadd, 0, []), (.istore_n 3, 0, [3]), (.iconst 1, 1, []), (.iload 6, 0, [6]), (.iconst 4, 4, []), (.idiv, 0, []), (.iconst 4, 4, []), (.irem, 0, []), (.bipush 16, 16, []), (.imul, 0, []), (.iadd, 0, []), (.iload 7, 0, [7]), (.bipush 16, 16, []), (.irem, 0, []), (.iadd, 0, []), (.istore 4, 0, [4]), (.iload 6, 0, [6]), (.iconst 3, 3, []), (.iand, 0, []), (.istore 5, 0, [5]), (.goto 137, 0, [308])]
def s464_174 : List E := [(.iload_n 1, 0, [1]), (.bipush 120, 120, []), (.if_icmp .ge 57, 0, [234]), (.iload_n 1, 0, [1]), (.bipush 84, 84, []), (.isub, 0, []), (.istore 6, 0, [6]), (.iconst 1, 1, []), (.iload 6, 0, [6]), (.bipush 12, 12, []), (.idiv, 0, []), (.sipush 256, 256, []), (.imul, 0, []), (.iadd, 0, []), (.aload_n 0, 0, [0]), (.iconst 3, 3, []), (.invokevirtual 1213, 0, [463, 16, 33, 29, 0, 0, 0]), (.iadd, 0, []), (.istore_n 3, 0, [3]), (.iconst 1, 1, []), (.iload 6, 0, [6]), (.bipush 12, 12, []), (.irem, 0, []), (.iconst 4, 4, []), (.idiv, 0, []), (.sipush 256, 256, []), (.imul, 0, []), (.iadd, 0, []), (.aload_n 0, 0, [0]), (.iconst 3, 3, []), (.invokevirtual 1213, 0, [463, 16, 33, 29, 0, 0, 0]), (.iadd, 0, []), (.istore 4, 0, [4]), (.iload 6, 0, [6]), (.iconst 3, 3, []), (.iand, 0, []), (.istore 5, 0, [5]), (.goto 77, 0, [308])]
def s464_234 : List E := [(.iload_n 1, 0, [1]), (.bipush 124, 124, []), (.if_icmp .ge 52, 0, [289]), (.aload_n 0, 0, [0]), (.iconst 3, 3, []), (.invokevirtual 1213, 0, [463, 16, 33, 29, 0, 0, 0]), (.istore 6, 0, [6]), (.aload_n 0, 0, [0]), (.iconst 3, 3, []), (.invokevirtual 1213, 0, [463, 16, 33, 29, 0, 0, 0]), (.istore 7, 0, [7]), (.iload 6, 0, [6]), (.iconst 4, 4, []), (.ishl, 0, []), (.iload 7, 0, [7]), (.iconst 4, 4, []), (.ishr, 0, []), (.ior, 0, []), (.istore_n 3, 0, [3]), (.iload 7, 0, [7]), (.bipush 15, 15, []), (.iand, 0, []), (.bipush 8, 8, []), (.ishl, 0, []), (.aload_n 0, 0, [0]), (.iconst 3, 3, []), (.invokevirtual 1213, 0, [463, 16, 33, 29, 0, 0, 0]), (.ior, 0, []), (.istore 4, 0, [4]), (.iload_n 1, 0, [1]), (.bipush 120, 120, []), (.isub, 0, []), (.istore 5, 0, [5]), (.goto 22, 0, [308])]
def s464_289 : List E := [(.aload_n 0, 0, [0]), (.iconst 3, 3, []), (.invokevirtual 1216, 0, [460, 16, 33, 8, 0, 0, 0]), (.istore_n 3, 0, [3]), (.aload_n 0, 0, [0]), (.iconst 3, 3, []), (.invokevirtual 1216, 0, [460, 16, 33, 8, 0, 0, 0]), (.istore 4, 0, [4]), (.iload_n 1, 0, [1]), (.bipush 124, 124, []), (.isub, 0, []), (.istore 5, 0, [5]), (.nop, 0, [308])]
def s464_308 : List E := [(.aload_n 0, 0, [0]), (.iload 5, 0, [5]), (.iconst 1, 1, []), (.iand, 0, []), (.iconst 1, 1, []), (.if_icmp .ne 7, 0, [321]), (.iload_n 3, 0, [3]), (.goto 5, 0, [323])]
def s464_321 : List E := [(.iload_n 3, 0, [3]), (.ineg, 0, []), (.nop, 0, [323])]
def s464_323 : List E := [(.putfield 1222, 0, [16, 149, 0]), (.aload_n 0, 0, [0]), (.iload 5, 0, [5]), (.iconst 2, 2, []), (.iand, 0, []), (.iconst 2, 2, []), (.if_icmp .ne 8, 0, [340]), (.iload 4, 0, [4]), (.goto 6, 0, [343])]
def s464_340 : List E := [(.iload 4, 0, [4]), (.ineg, 0, []), (.nop, 0, [343])]
def s464_343 : List E := [(.putfield 1225, 0, [16, 150, 0]), (.iconst 1, 1, []), (.ireturn, 0, [1])]
def cd464 : List (Nat × List E) := [(0, s464_0), (10, s464_10), (20, s464_20), (30, s464_30), (31, s464_31), (43, s464_43), (76, s464_76), (77, s464_77), (89, s464_89), (90, s464_90), (104, s464_104), (105, s464_105), (110, s464_110), (174, s464_174), (234, s464_234), (289, s464_289), (308, s464_308), (321, s464_321), (323, s464_323), (340, s464_340), (343, s464_343)]
theorem l464_0 : lkc cd464 0 = s464_0 := rfl
theorem l464_10 : lkc cd464 10 = s464_10 := rfl
theorem l464_20 : lkc cd464 20 = s464_20 := rfl
theorem l464_30 : lkc cd464 30 = s464_30 := rfl
theorem l464_31 : lkc cd464 31 = s464_31 := rfl
theorem l464_43 : lkc cd464 43 = s464_43 := rfl
theorem l464_76 : lkc cd464 76 = s464_76 := rfl
theorem l464_77 : lkc cd464 77 = s464_77 := rfl
theorem l464_89 : lkc cd464 89 = s464_89 := rfl
theorem l464_90 : lkc cd464 90 = s464_90 := rfl
theorem l464_104 : lkc cd464 104 = s464_104 := rfl
theorem l464_105 : lkc cd464 105 = s464_105 := rfl
theorem l464_110 : lkc cd464 110 = s464_110 := rfl
theorem l464_174 : lkc cd464 174 = s464_174 := rfl
theorem l464_234 : lkc cd464 234 = s464_234 := rfl
theorem l464_289 : lkc cd464 289 = s464_289 := rfl
theorem l464_308 : lkc cd464 308 = s464_308 := rfl
theorem l464_321 : lkc cd464 321 = s464_321 := rfl
theorem l464_323 : lkc cd464 323 = s464_323 := rfl
theorem l464_340 : lkc cd464 340 = s464_340 := rfl
theorem l464_343 : lkc cd464 343 = s464_343 := rfl
theorem k464 : chkM 464 16 true cd464 = true := by decide +kernel
/- FontHouseModel.tCode()Z -/
def s465_0 : List E := [(.aload_n 0, 0, [0]), (.iconst 3, 3, []), (.invokevirtual 1219, 0, [462, 16, 33, 8, 0, 0, 0]), (.istore_n 1, 0, [1]), (.iload_n 1, 0, [1]), (.ifCond .lt 20, 0, [27]), (.iload_n 1, 0, [1]), (.sipush 300, 300, []), (.if_icmp .gt 13, 0, [27]), (.aload_n 0, 0, [0]), (.bipush 6, 6, []), (.iload_n 1, 0, [1]), (.invokevirtual 1210, 0, [458, 16, 33, 50, 0, 3, 0, 0]), (.ifCond .ne 5, 0, [29]), (.nop, 0, [27])]
def s465_27 : List E := [(.iconst 0, 0, []), (.ireturn, 0, [1])]
def s465_29 : List E := [(.aload_n 0, 0, [0]), (.iload_n 1, 0, [1]), (.putfield 820, 0, [16, 77, 0]), (.iconst 0, 0, []), (.istore_n 2, 0, [2]), (.nop, 0, [36])]
def s465_36 : List E := [(.iload_n 2, 0, [2]), (.iload_n 1, 0, [1]), (.if_icmp .ge 22, 0, [60]), (.aload_n 0, 0, [0]), (.getfield 211, 64, [16, 91, 83, 1]), (.iload_n 2, 0, [2]), (.aload_n 0, 0, [0]), (.bipush 6, 6, []), (.invokevirtual 1213, 0, [463, 16, 33, 51, 0, 0, 0]), (.i2b, 0, []), (.bastore, 0, [41]), (.iinc 2 1, 1, [2]), (.goto (-21), 0, [36])]
def s465_60 : List E := [(.iconst 1, 1, []), (.ireturn, 0, [1])]
def cd465 : List (Nat × List E) := [(0, s465_0), (27, s465_27), (29, s465_29), (36, s465_36), (60, s465_60)]
theorem l465_0 : lkc cd465 0 = s465_0 := rfl
theorem l465_27 : lkc cd465 27 = s465_27 := rfl
theorem l465_29 : lkc cd465 29 = s465_29 := rfl
theorem l465_36 : lkc cd465 36 = s465_36 := rfl
theorem l465_60 : lkc cd465 60 = s465_60 := rfl
theorem k465 : chkM 465 16 true cd465 = true := by decide +kernel
