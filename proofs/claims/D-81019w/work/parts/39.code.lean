set_option maxRecDepth 100000
/- FontHouseModel.bit()I -/
def s242_0 : List E := [(.aload_n 0, 0, [0]), (.getfield 343, 0, [16, 2, 0]), (.ifCond .le 5, 0, [9]), (.iconst 0, 0, []), (.ireturn, 0, [])]
def s242_9 : List E := [(.aload_n 0, 0, [0]), (.getfield 351, 0, [16, 6, 0]), (.aload_n 0, 0, [0]), (.getfield 354, 0, [16, 5, 0]), (.if_icmp .ne 15, 0, [32]), (.aload_n 0, 0, [0]), (.iconst 1, 1, []), (.aload_n 0, 0, [0]), (.getfield 351, 0, [16, 6, 0]), (.invokevirtual 357, 0, [243, 16, 33, 8, 0, 3, 0, 0]), (.pop, 0, []), (.iconst 0, 0, []), (.ireturn, 0, [])]
def s242_32 : List E := [(.aload_n 0, 0, [0]), (.getfield 22, 3, [16, 4, 83, 1]), (.aload_n 0, 0, [0]), (.getfield 351, 0, [16, 6, 0]), (.iconst 3, 3, []), (.ishr, 0, []), (.baload, 0, [41]), (.aload_n 0, 0, [0]), (.getfield 351, 0, [16, 6, 0]), (.bipush 7, 7, []), (.iand, 0, []), (.ishr, 0, []), (.iconst 1, 1, []), (.iand, 0, []), (.istore_n 1, 0, [1]), (.aload_n 0, 0, [0]), (.dup, 0, []), (.getfield 351, 0, [16, 6, 0]), (.iconst 1, 1, []), (.iadd, 0, []), (.putfield 351, 0, [16, 6, 0]), (.iload_n 1, 0, [1]), (.ireturn, 0, [])]
def cd242 : List (Nat × List E) := [(0, s242_0), (9, s242_9), (32, s242_32)]
theorem l242_0 : lkc cd242 0 = s242_0 := rfl
theorem l242_9 : lkc cd242 9 = s242_9 := rfl
theorem l242_32 : lkc cd242 32 = s242_32 := rfl
theorem k242 : chkM 242 16 true cd242 = true := by decide +kernel
/- FontHouseModel.fails(II)Z -/
def s243_0 : List E := [(.aload_n 0, 0, [0]), (.getfield 343, 0, [16, 2, 0]), (.ifCond .ne 13, 0, [17]), (.aload_n 0, 0, [0]), (.iload_n 1, 0, [1]), (.putfield 343, 0, [16, 2, 0]), (.aload_n 0, 0, [0]), (.iload_n 2, 0, [2]), (.putfield 18, 0, [16, 3, 0]), (.nop, 0, [17])]
def s243_17 : List E := [(.iconst 1, 1, []), (.ireturn, 0, [1])]
def cd243 : List (Nat × List E) := [(0, s243_0), (17, s243_17)]
theorem l243_0 : lkc cd243 0 = s243_0 := rfl
theorem l243_17 : lkc cd243 17 = s243_17 := rfl
theorem k243 : chkM 243 16 true cd243 = true := by decide +kernel
/- FontHouseModel.number(I)I -/
def s244_0 : List E := [(.aload_n 0, 0, [0]), (.getfield 343, 0, [16, 2, 0]), (.ifCond .le 5, 0, [9]), (.iconst 0, 0, []), (.ireturn, 0, [])]
def s244_9 : List E := [(.aload_n 0, 0, [0]), (.getfield 354, 0, [16, 5, 0]), (.aload_n 0, 0, [0]), (.getfield 351, 0, [16, 6, 0]), (.isub, 0, []), (.iload_n 1, 0, [1]), (.if_icmp .ge 15, 0, [34]), (.aload_n 0, 0, [0]), (.iconst 1, 1, []), (.aload_n 0, 0, [0]), (.getfield 351, 0, [16, 6, 0]), (.invokevirtual 357, 0, [243, 16, 33, 29, 0, 3, 0, 0]), (.pop, 0, []), (.iconst 0, 0, []), (.ireturn, 0, [])]
def s244_34 : List E := [(.iconst 0, 0, []), (.istore_n 2, 0, [2]), (.iconst 0, 0, []), (.istore_n 3, 0, [3]), (.nop, 0, [38])]
def s244_38 : List E := [(.iload_n 3, 0, [3]), (.iload_n 1, 0, [1]), (.if_icmp .ge 18, 0, [58]), (.iload_n 2, 0, [2]), (.aload_n 0, 0, [0]), (.invokevirtual 361, 0, [242, 16, 33, 8, 0, 0]), (.iload_n 3, 0, [3]), (.ishl, 0, []), (.ior, 0, []), (.istore_n 2, 0, [2]), (.iinc 3 1, 1, [3]), (.goto (-17), 0, [38])]
def s244_58 : List E := [(.iload_n 2, 0, [2]), (.ireturn, 0, [])]
def cd244 : List (Nat × List E) := [(0, s244_0), (9, s244_9), (34, s244_34), (38, s244_38), (58, s244_58)]
theorem l244_0 : lkc cd244 0 = s244_0 := rfl
theorem l244_9 : lkc cd244 9 = s244_9 := rfl
theorem l244_34 : lkc cd244 34 = s244_34 := rfl
theorem l244_38 : lkc cd244 38 = s244_38 := rfl
theorem l244_58 : lkc cd244 58 = s244_58 := rfl
theorem k244 : chkM 244 16 true cd244 = true := by decide +kernel
/- FontHouseModel.block(Z)V -/
def s245_0 : List E := [(.aload_n 0, 0, [0]), (.iconst 2, 2, []), (.invokevirtual 365, 0, [244, 16, 33, 138, 0, 0, 0]), (.istore_n 2, 0, [2]), (.aload_n 0, 0, [0]), (.getfield 343, 0, [16, 2, 0]), (.ifCond .le 4, 0, [14]), (.return_, 0, [])]
def s245_14 : List E := [(.iload_n 2, 0, [2]), (.iconst 3, 3, []), (.if_icmp .ne 8, 0, [24]), (.aload_n 0, 0, [0]), (.invokevirtual 503, 0, [246, 16, 33, 73, 0, 100]), (.return_, 0, [])]
def s245_24 : List E := [(.aload_n 0, 0, [0]), (.bipush 16, 16, []), (.iconst 4, 4, []), (.iload_n 2, 0, [2]), (.imul, 0, []), (.iadd, 0, []), (.invokevirtual 365, 0, [244, 16, 33, 138, 0, 0, 0]), (.istore_n 3, 0, [3]), (.aload_n 0, 0, [0]), (.getfield 343, 0, [16, 2, 0]), (.ifCond .ne 28, 0, [67]), (.iload_n 2, 0, [2]), (.ifCond .le 24, 0, [67]), (.iload_n 3, 0, [3]), (.bipush 12, 12, []), (.iconst 4, 4, []), (.iload_n 2, 0, [2]), (.imul, 0, []), (.iadd, 0, []), (.ishr, 0, []), (.ifCond .ne 13, 0, [67]), (.aload_n 0, 0, [0]), (.iconst 3, 3, []), (.aload_n 0, 0, [0]), (.getfield 351, 0, [16, 6, 0]), (.invokevirtual 357, 0, [243, 16, 33, 182, 0, 3, 0, 0]), (.pop, 0, []), (.nop, 0, [67])]
def s245_67 : List E := [(.aload_n 0, 0, [0]), (.getfield 343, 0, [16, 2, 0]), (.ifCond .ne 28, 0, [99]), (.iload_n 3, 0, [3]), (.iconst 1, 1, []), (.iadd, 0, []), (.sipush 16000, 16000, []), (.aload_n 0, 0, [0]), (.getfield 424, 0, [16, 8, 0]), (.isub, 0, []), (.if_icmp .le 14, 0, [99]), (.aload_n 0, 0, [0]), (.bipush 10, 10, []), (.aload_n 0, 0, [0]), (.getfield 351, 0, [16, 6, 0]), (.invokevirtual 357, 0, [243, 16, 33, 182, 0, 3, 0, 0]), (.pop, 0, []), (.nop, 0, [99])]
def s245_99 : List E := [(.aload_n 0, 0, [0]), (.getfield 343, 0, [16, 2, 0]), (.ifCond .ne 24, 0, [127]), (.iload_n 1, 0, [1]), (.ifCond .ne 20, 0, [127]), (.aload_n 0, 0, [0]), (.invokevirtual 361, 0, [242, 16, 33, 161, 0, 0]), (.iconst 1, 1, []), (.if_icmp .ne 12, 0, [127]), (.aload_n 0, 0, [0]), (.iload_n 3, 0, [3]), (.iconst 1, 1, []), (.iadd, 0, []), (.iconst 1, 1, []), (.invokevirtual 435, 0, [247, 16, 33, 95, 0, 100, 3, 0]), (.return_, 0, [])]
def s245_127 : List E := [(.aload_n 0, 0, [0]), (.getfield 343, 0, [16, 2, 0]), (.ifCond .ne 7, 0, [138]), (.aload_n 0, 0, [0]), (.invokevirtual 506, 0, [250, 16, 33, 27, 0, 100]), (.nop, 0, [138])]
def s245_138 : List E := [(.aload_n 0, 0, [0]), (.getfield 343, 0, [16, 2, 0]), (.ifCond .ne 10, 0, [152]), (.aload_n 0, 0, [0]), (.iload_n 3, 0, [3]), (.iconst 1, 1, []), (.iadd, 0, []), (.invokevirtual 509, 0, [266, 16, 33, 8, 0, 100, 0]), (.nop, 0, [152])]
def s245_152 : List E := [(.return_, 0, [])]
def cd245 : List (Nat × List E) := [(0, s245_0), (14, s245_14), (24, s245_24), (67, s245_67), (99, s245_99), (127, s245_127), (138, s245_138), (152, s245_152)]
theorem l245_0 : lkc cd245 0 = s245_0 := rfl
theorem l245_14 : lkc cd245 14 = s245_14 := rfl
theorem l245_24 : lkc cd245 24 = s245_24 := rfl
theorem l245_67 : lkc cd245 67 = s245_67 := rfl
theorem l245_99 : lkc cd245 99 = s245_99 := rfl
theorem l245_127 : lkc cd245 127 = s245_127 := rfl
theorem l245_138 : lkc cd245 138 = s245_138 := rfl
theorem l245_152 : lkc cd245 152 = s245_152 := rfl
theorem k245 : chkM 245 16 true cd245 = true := by decide +kernel
/- FontHouseModel.skipped()V -/
def s246_0 : List E := [(.aload_n 0, 0, [0]), (.invokevirtual 361, 0, [242, 16, 33, 74, 0, 0]), (.iconst 1, 1, []), (.if_icmp .ne 13, 0, [18]), (.aload_n 0, 0, [0]), (.iconst 4, 4, []), (.aload_n 0, 0, [0]), (.getfield 351, 0, [16, 6, 0]), (.invokevirtual 357, 0, [243, 16, 33, 95, 0, 3, 0, 0]), (.pop, 0, []), (.nop, 0, [18])]
def s246_18 : List E := [(.aload_n 0, 0, [0]), (.iconst 2, 2, []), (.invokevirtual 365, 0, [244, 16, 33, 51, 0, 0, 0]), (.istore_n 1, 0, [1]), (.aload_n 0, 0, [0]), (.bipush 8, 8, []), (.iload_n 1, 0, [1]), (.imul, 0, []), (.invokevirtual 365, 0, [244, 16, 33, 51, 0, 0, 0]), (.istore_n 2, 0, [2]), (.aload_n 0, 0, [0]), (.getfield 343, 0, [16, 2, 0]), (.ifCond .ne 29, 0, [66]), (.iload_n 1, 0, [1]), (.iconst 1, 1, []), (.if_icmp .le 24, 0, [66]), (.iload_n 2, 0, [2]), (.bipush 8, 8, []), (.iload_n 1, 0, [1]), (.iconst 1, 1, []), (.isub, 0, []), (.imul, 0, []), (.ishr, 0, []), (.ifCond .ne 13, 0, [66]), (.aload_n 0, 0, [0]), (.iconst 3, 3, []), (.aload_n 0, 0, [0]), (.getfield 351, 0, [16, 6, 0]), (.invokevirtual 357, 0, [243, 16, 33, 95, 0, 3, 0, 0]), (.pop, 0, []), (.nop, 0, [66])]
def s246_66 : List E := [(.aload_n 0, 0, [0]), (.aload_n 0, 0, [0]), (.getfield 343, 0, [16, 2, 0]), (.ifCond .gt 7, 0, [78]), (.iload_n 1, 0, [1]), (.ifCond .ne 7, 0, [82]), (.nop, 0, [78])]
def s246_78 : List E := [(.iconst 0, 0, []), (.goto 6, 0, [85])]
def s246_82 : List E := [(.iload_n 2, 0, [2]), (.iconst 1, 1, []), (.iadd, 0, []), (.nop, 0, [85])]
def s246_85 : List E := [(.iconst 0, 0, []), (.invokevirtual 435, 0, [247, 16, 33, 8, 0, 100, 3, 0]), (.return_, 0, [])]
def cd246 : List (Nat × List E) := [(0, s246_0), (18, s246_18), (66, s246_66), (78, s246_78), (82, s246_82), (85, s246_85)]
theorem l246_0 : lkc cd246 0 = s246_0 := rfl
theorem l246_18 : lkc cd246 18 = s246_18 := rfl
theorem l246_66 : lkc cd246 66 = s246_66 := rfl
theorem l246_78 : lkc cd246 78 = s246_78 := rfl
theorem l246_82 : lkc cd246 82 = s246_82 := rfl
theorem l246_85 : lkc cd246 85 = s246_85 := rfl
theorem k246 : chkM 246 16 true cd246 = true := by decide +kernel
/- FontHouseModel.plain(IZ)V -/
def s247_0 : List E := [(.aload_n 0, 0, [0]), (.invokevirtual 427, 0, [248, 16, 33, 8, 0, 100]), (.aload_n 0, 0, [0]), (.getfield 343, 0, [16, 2, 0]), (.ifCond .ne 33, 0, [41]), (.aload_n 0, 0, [0]), (.getfield 354, 0, [16, 5, 0]), (.aload_n 0, 0, [0]), (.getfield 351, 0, [16, 6, 0]), (.isub, 0, []), (.i2l, 0, []), (.ldc2_w 430, 8, []), (.iload_n 1, 0, [1]), (.i2l, 0, []), (.lmul, 0, []), (.lcmp, 0, []), (.ifCond .ge 13, 0, [41]), (.aload_n 0, 0, [0]), (.iconst 1, 1, []), (.aload_n 0, 0, [0]), (.getfield 351, 0, [16, 6, 0]), (.invokevirtual 357, 0, [243, 16, 33, 72, 0, 3, 0, 0]), (.pop, 0, []), (.nop, 0, [41])]
def s247_41 : List E := [(.iconst 0, 0, []), (.istore_n 3, 0, [3]), (.nop, 0, [43])]
def s247_43 : List E := [(.iload_n 3, 0, [3]), (.iload_n 1, 0, [1]), (.if_icmp .ge 50, 0, [95]), (.aload_n 0, 0, [0]), (.getfield 343, 0, [16, 2, 0]), (.ifCond .ne 43, 0, [95]), (.iload_n 2, 0, [2]), (.ifCond .eq 22, 0, [78]), (.aload_n 0, 0, [0]), (.aload_n 0, 0, [0]), (.getfield 22, 3, [16, 4, 83, 1]), (.aload_n 0, 0, [0]), (.getfield 351, 0, [16, 6, 0]), (.iconst 3, 3, []), (.ishr, 0, []), (.baload, 0, [41]), (.sipush 255, 255, []), (.iand, 0, []), (.invokevirtual 432, 0, [249, 16, 33, 73, 0, 100, 0]), (.nop, 0, [78])]
def s247_78 : List E := [(.aload_n 0, 0, [0]), (.dup, 0, []), (.getfield 351, 0, [16, 6, 0]), (.bipush 8, 8, []), (.iadd, 0, []), (.putfield 351, 0, [16, 6, 0]), (.iinc 3 1, 1, [3]), (.goto (-49), 0, [43])]
def s247_95 : List E := [(.return_, 0, [])]
def cd247 : List (Nat × List E) := [(0, s247_0), (41, s247_41), (43, s247_43), (78, s247_78), (95, s247_95)]
theorem l247_0 : lkc cd247 0 = s247_0 := rfl
theorem l247_41 : lkc cd247 41 = s247_41 := rfl
theorem l247_43 : lkc cd247 43 = s247_43 := rfl
theorem l247_78 : lkc cd247 78 = s247_78 := rfl
theorem l247_95 : lkc cd247 95 = s247_95 := rfl
theorem k247 : chkM 247 16 true cd247 = true := by decide +kernel
/- FontHouseModel.toByte()V -/
def s248_0 : List E := [(.aload_n 0, 0, [0]), (.getfield 343, 0, [16, 2, 0]), (.ifCond .ne 28, 0, [32]), (.aload_n 0, 0, [0]), (.aload_n 0, 0, [0]), (.getfield 351, 0, [16, 6, 0]), (.ineg, 0, []), (.bipush 7, 7, []), (.iand, 0, []), (.invokevirtual 365, 0, [244, 16, 33, 8, 0, 0, 0]), (.ifCond .eq 13, 0, [32]), (.aload_n 0, 0, [0]), (.iconst 5, 5, []), (.aload_n 0, 0, [0]), (.getfield 351, 0, [16, 6, 0]), (.invokevirtual 357, 0, [243, 16, 33, 52, 0, 3, 0, 0]), (.pop, 0, []), (.nop, 0, [32])]
def s248_32 : List E := [(.return_, 0, [])]
def cd248 : List (Nat × List E) := [(0, s248_0), (32, s248_32)]
theorem l248_0 : lkc cd248 0 = s248_0 := rfl
theorem l248_32 : lkc cd248 32 = s248_32 := rfl
theorem k248 : chkM 248 16 true cd248 = true := by decide +kernel
/- FontHouseModel.letter(I)V -/
def s249_0 : List E := [(.aload_n 0, 0, [0]), (.getfield 25, 4, [16, 7, 83, 1]), (.aload_n 0, 0, [0]), (.getfield 424, 0, [16, 8, 0]), (.iload_n 1, 0, [1]), (.i2b, 0, []), (.bastore, 0, [41]), (.aload_n 0, 0, [0]), (.dup, 0, []), (.getfield 424, 0, [16, 8, 0]), (.iconst 1, 1, []), (.iadd, 0, []), (.putfield 424, 0, [16, 8, 0]), (.aload_n 0, 0, [0]), (.getfield 28, 5, [16, 9, 81, 1]), (.iconst 4, 4, []), (.dup2, 0, []), (.iaload, 0, []), (.iconst 1, 1, []), (.iadd, 0, []), (.iastore, 0, []), (.return_, 0, [])]
def cd249 : List (Nat × List E) := [(0, s249_0)]
theorem l249_0 : lkc cd249 0 = s249_0 := rfl
theorem k249 : chkM 249 16 true cd249 = true := by decide +kernel
/- FontHouseModel.heads()V -/
def s250_0 : List E := [(.iconst 0, 0, []), (.istore_n 1, 0, [1]), (.nop, 0, [2])]
def s250_2 : List E := [(.iload_n 1, 0, [1]), (.iconst 3, 3, []), (.if_icmp .ge 96, 0, [100]), (.aload_n 0, 0, [0]), (.getfield 48, 11, [16, 16, 81, 1]), (.iload_n 1, 0, [1]), (.aload_n 0, 0, [0]), (.invokevirtual 439, 0, [251, 16, 33, 75, 0, 0]), (.iastore, 0, []), (.aload_n 0, 0, [0]), (.getfield 51, 12, [16, 17, 81, 1]), (.iload_n 1, 0, [1]), (.iconst 0, 0, []), (.iastore, 0, []), (.aload_n 0, 0, [0]), (.getfield 54, 13, [16, 18, 81, 1]), (.iload_n 1, 0, [1]), (.iconst 1, 1, []), (.iastore, 0, []), (.aload_n 0, 0, [0]), (.getfield 57, 14, [16, 19, 81, 1]), (.iload_n 1, 0, [1]), (.iconst 0, 0, []), (.iastore, 0, []), (.aload_n 0, 0, [0]), (.getfield 48, 11, [16, 16, 81, 1]), (.iload_n 1, 0, [1]), (.iaload, 0, []), (.iconst 1, 1, []), (.if_icmp .le 49, 0, [94]), (.aload_n 0, 0, [0]), (.getfield 343, 0, [16, 2, 0]), (.ifCond .ne 42, 0, [94]), (.aload_n 0, 0, [0]), (.sipush 768, 768, []), (.iload_n 1, 0, [1]), (.iadd, 0, []), (.aload_n 0, 0, [0]), (.getfield 48, 11, [16, 16, 81, 1]), (.iload_n 1, 0, [1]), (.iaload, 0, []), (.iconst 2, 2, []), (.iadd, 0, []), (.invokevirtual 399, 0, [252, 16, 33, 37, 0, 100, 0, 0]), (.aload_n 0, 0, [0]), (.sipush 771, 771, []), (.iload_n 1, 0, [1]), (.iadd, 0, []), (.bipush 26, 26, []), (.invokevirtual 399, 0, [252, 16, 33, 37, 0, 100, 0, 0]), (.aload_n 0, 0, [0]), (.getfield 57, 14, [16, 19, 81, 1]), (.iload_n 1, 0, [1]), (.aload_n 0, 0, [0]), (.iload_n 1, 0, [1]), (.invokevirtual 408, 0, [262, 16, 33, 69, 0, 0, 0]), (.iastore, 0, []), (.nop, 0, [94])]
def s250_94 : List E := [(.iinc 1 1, 1, [1]), (.goto (-95), 0, [2])]
def s250_100 : List E := [(.aload_n 0, 0, [0]), (.aload_n 0, 0, [0]), (.iconst 2, 2, []), (.invokevirtual 365, 0, [244, 16, 33, 96, 0, 0, 0]), (.putfield 442, 0, [16, 25, 0]), (.aload_n 0, 0, [0]), (.aload_n 0, 0, [0]), (.iconst 4, 4, []), (.invokevirtual 365, 0, [244, 16, 33, 96, 0, 0, 0]), (.aload_n 0, 0, [0]), (.getfield 442, 0, [16, 25, 0]), (.ishl, 0, []), (.putfield 445, 0, [16, 26, 0]), (.iconst 0, 0, []), (.istore_n 1, 0, [1]), (.nop, 0, [125])]
def s250_125 : List E := [(.iload_n 1, 0, [1]), (.aload_n 0, 0, [0]), (.getfield 48, 11, [16, 16, 81, 1]), (.iconst 0, 0, []), (.iaload, 0, []), (.if_icmp .ge 27, 0, [159]), (.aload_n 0, 0, [0]), (.getfield 343, 0, [16, 2, 0]), (.ifCond .ne 20, 0, [159]), (.aload_n 0, 0, [0]), (.getfield 60, 15, [16, 20, 81, 1]), (.iload_n 1, 0, [1]), (.aload_n 0, 0, [0]), (.iconst 2, 2, []), (.invokevirtual 365, 0, [244, 16, 33, 96, 0, 0, 0]), (.iastore, 0, []), (.iinc 1 1, 1, [1]), (.goto (-31), 0, [125])]
def s250_159 : List E := [(.aload_n 0, 0, [0]), (.invokevirtual 439, 0, [251, 16, 33, 75, 0, 0]), (.istore_n 1, 0, [1]), (.iconst 0, 0, []), (.istore_n 2, 0, [2]), (.nop, 0, [166])]
def s250_166 : List E := [(.iload_n 2, 0, [2]), (.bipush 64, 64, []), (.aload_n 0, 0, [0]), (.getfield 48, 11, [16, 16, 81, 1]), (.iconst 0, 0, []), (.iaload, 0, []), (.imul, 0, []), (.if_icmp .ge 16, 0, [192]), (.aload_n 0, 0, [0]), (.getfield 63, 16, [16, 21, 81, 1]), (.iload_n 2, 0, [2]), (.iconst 0, 0, []), (.iastore, 0, []), (.iinc 2 1, 1, [2]), (.goto (-23), 0, [166])]
def s250_192 : List E := [(.iload_n 1, 0, [1]), (.iconst 1, 1, []), (.if_icmp .le 28, 0, [222]), (.aload_n 0, 0, [0]), (.getfield 343, 0, [16, 2, 0]), (.ifCond .ne 21, 0, [222]), (.aload_n 0, 0, [0]), (.aload_n 0, 0, [0]), (.getfield 63, 16, [16, 21, 81, 1]), (.bipush 64, 64, []), (.aload_n 0, 0, [0]), (.getfield 48, 11, [16, 16, 81, 1]), (.iconst 0, 0, []), (.iaload, 0, []), (.imul, 0, []), (.iload_n 1, 0, [1]), (.invokevirtual 448, 0, [265, 16, 33, 8, 0, 100, 0, 0, 46]), (.nop, 0, [222])]
def s250_222 : List E := [(.aload_n 0, 0, [0]), (.invokevirtual 439, 0, [251, 16, 33, 75, 0, 0]), (.istore_n 2, 0, [2]), (.iconst 0, 0, []), (.istore_n 3, 0, [3]), (.nop, 0, [229])]
def s250_229 : List E := [(.iload_n 3, 0, [3]), (.iconst 4, 4, []), (.aload_n 0, 0, [0]), (.getfield 48, 11, [16, 16, 81, 1]), (.iconst 2, 2, []), (.iaload, 0, []), (.imul, 0, []), (.if_icmp .ge 16, 0, [254]), (.aload_n 0, 0, [0]), (.getfield 66, 17, [16, 22, 81, 1]), (.iload_n 3, 0, [3]), (.iconst 0, 0, []), (.iastore, 0, []), (.iinc 3 1, 1, [3]), (.goto (-22), 0, [229])]
def s250_254 : List E := [(.iload_n 2, 0, [2]), (.iconst 1, 1, []), (.if_icmp .le 27, 0, [283]), (.aload_n 0, 0, [0]), (.getfield 343, 0, [16, 2, 0]), (.ifCond .ne 20, 0, [283]), (.aload_n 0, 0, [0]), (.aload_n 0, 0, [0]), (.getfield 66, 17, [16, 22, 81, 1]), (.iconst 4, 4, []), (.aload_n 0, 0, [0]), (.getfield 48, 11, [16, 16, 81, 1]), (.iconst 2, 2, []), (.iaload, 0, []), (.imul, 0, []), (.iload_n 2, 0, [2]), (.invokevirtual 448, 0, [265, 16, 33, 8, 0, 100, 0, 0, 46]), (.nop, 0, [283])]
def s250_283 : List E := [(.iconst 0, 0, []), (.istore_n 3, 0, [3]), (.nop, 0, [285])]
def s250_285 : List E := [(.iload_n 3, 0, [3]), (.iload_n 1, 0, [1]), (.if_icmp .ge 24, 0, [311]), (.aload_n 0, 0, [0]), (.getfield 343, 0, [16, 2, 0]), (.ifCond .ne 17, 0, [311]), (.aload_n 0, 0, [0]), (.iload_n 3, 0, [3]), (.sipush 256, 256, []), (.invokevirtual 399, 0, [252, 16, 33, 37, 0, 100, 0, 0]), (.iinc 3 1, 1, [3]), (.goto (-23), 0, [285])]
def s250_311 : List E := [(.iconst 0, 0, []), (.istore_n 3, 0, [3]), (.nop, 0, [313])]
def s250_313 : List E := [(.iload_n 3, 0, [3]), (.aload_n 0, 0, [0]), (.getfield 48, 11, [16, 16, 81, 1]), (.iconst 1, 1, []), (.iaload, 0, []), (.if_icmp .ge 28, 0, [348]), (.aload_n 0, 0, [0]), (.getfield 343, 0, [16, 2, 0]), (.ifCond .ne 21, 0, [348]), (.aload_n 0, 0, [0]), (.sipush 256, 256, []), (.iload_n 3, 0, [3]), (.iadd, 0, []), (.sipush 704, 704, []), (.invokevirtual 399, 0, [252, 16, 33, 37, 0, 100, 0, 0]), (.iinc 3 1, 1, [3]), (.goto (-32), 0, [313])]
def s250_348 : List E := [(.iconst 0, 0, []), (.istore_n 3, 0, [3]), (.nop, 0, [350])]
def s250_350 : List E := [(.iload_n 3, 0, [3]), (.iload_n 2, 0, [2]), (.if_icmp .ge 40, 0, [392]), (.aload_n 0, 0, [0]), (.getfield 343, 0, [16, 2, 0]), (.ifCond .ne 33, 0, [392]), (.aload_n 0, 0, [0]), (.sipush 512, 512, []), (.iload_n 3, 0, [3]), (.iadd, 0, []), (.bipush 16, 16, []), (.aload_n 0, 0, [0]), (.getfield 445, 0, [16, 26, 0]), (.iadd, 0, []), (.bipush 48, 48, []), (.aload_n 0, 0, [0]), (.getfield 442, 0, [16, 25, 0]), (.ishl, 0, []), (.iadd, 0, []), (.invokevirtual 399, 0, [252, 16, 33, 37, 0, 100, 0, 0]), (.iinc 3 1, 1, [3]), (.goto (-39), 0, [350])]
def s250_392 : List E := [(.return_, 0, [])]
def cd250 : List (Nat × List E) := [(0, s250_0), (2, s250_2), (94, s250_94), (100, s250_100), (125, s250_125), (159, s250_159), (166, s250_166), (192, s250_192), (222, s250_222), (229, s250_229), (254, s250_254), (283, s250_283), (285, s250_285), (311, s250_311), (313, s250_313), (348, s250_348), (350, s250_350), (392, s250_392)]
theorem l250_0 : lkc cd250 0 = s250_0 := rfl
theorem l250_2 : lkc cd250 2 = s250_2 := rfl
theorem l250_94 : lkc cd250 94 = s250_94 := rfl
theorem l250_100 : lkc cd250 100 = s250_100 := rfl
theorem l250_125 : lkc cd250 125 = s250_125 := rfl
theorem l250_159 : lkc cd250 159 = s250_159 := rfl
theorem l250_166 : lkc cd250 166 = s250_166 := rfl
theorem l250_192 : lkc cd250 192 = s250_192 := rfl
theorem l250_222 : lkc cd250 222 = s250_222 := rfl
theorem l250_229 : lkc cd250 229 = s250_229 := rfl
theorem l250_254 : lkc cd250 254 = s250_254 := rfl
theorem l250_283 : lkc cd250 283 = s250_283 := rfl
theorem l250_285 : lkc cd250 285 = s250_285 := rfl
theorem l250_311 : lkc cd250 311 = s250_311 := rfl
theorem l250_313 : lkc cd250 313 = s250_313 := rfl
theorem l250_348 : lkc cd250 348 = s250_348 := rfl
theorem l250_350 : lkc cd250 350 = s250_350 := rfl
theorem l250_392 : lkc cd250 392 = s250_392 := rfl
theorem k250 : chkM 250 16 true cd250 = true := by decide +kernel
/- FontHouseModel.small()I -/
def s251_0 : List E := [(.aload_n 0, 0, [0]), (.invokevirtual 361, 0, [242, 16, 33, 31, 0, 0]), (.ifCond .ne 5, 0, [9]), (.iconst 1, 1, []), (.ireturn, 0, [])]
def s251_9 : List E := [(.aload_n 0, 0, [0]), (.iconst 3, 3, []), (.invokevirtual 365, 0, [244, 16, 33, 8, 0, 0, 0]), (.istore_n 1, 0, [1]), (.iconst 1, 1, []), (.iconst 1, 1, []), (.iload_n 1, 0, [1]), (.ishl, 0, []), (.iadd, 0, []), (.aload_n 0, 0, [0]), (.iload_n 1, 0, [1]), (.invokevirtual 365, 0, [244, 16, 33, 8, 0, 0, 0]), (.iadd, 0, []), (.ireturn, 0, [])]
def cd251 : List (Nat × List E) := [(0, s251_0), (9, s251_9)]
theorem l251_0 : lkc cd251 0 = s251_0 := rfl
theorem l251_9 : lkc cd251 9 = s251_9 := rfl
theorem k251 : chkM 251 16 true cd251 = true := by decide +kernel
/- FontHouseModel.readCode(II)V -/
def s252_0 : List E := [(.aload_n 0, 0, [0]), (.iconst 2, 2, []), (.invokevirtual 365, 0, [244, 16, 33, 44, 0, 0, 0]), (.istore_n 3, 0, [3]), (.aload_n 0, 0, [0]), (.getfield 343, 0, [16, 2, 0]), (.ifCond .le 4, 0, [14]), (.return_, 0, [])]
def s252_14 : List E := [(.iload_n 3, 0, [3]), (.iconst 1, 1, []), (.if_icmp .ne 12, 0, [28]), (.aload_n 0, 0, [0]), (.iload_n 1, 0, [1]), (.iload_n 2, 0, [2]), (.invokevirtual 372, 0, [253, 16, 33, 17, 0, 100, 0, 0]), (.goto 26, 0, [51])]
def s252_28 : List E := [(.aload_n 0, 0, [0]), (.iload_n 3, 0, [3]), (.invokevirtual 376, 0, [258, 16, 33, 17, 0, 100, 0]), (.aload_n 0, 0, [0]), (.iload_n 2, 0, [2]), (.invokevirtual 380, 0, [260, 16, 33, 8, 0, 100, 0]), (.aload_n 0, 0, [0]), (.getfield 343, 0, [16, 2, 0]), (.ifCond .ne 9, 0, [51]), (.aload_n 0, 0, [0]), (.iload_n 1, 0, [1]), (.iload_n 2, 0, [2]), (.invokevirtual 383, 0, [257, 16, 33, 63, 0, 100, 0, 0]), (.nop, 0, [51])]
def s252_51 : List E := [(.return_, 0, [])]
def cd252 : List (Nat × List E) := [(0, s252_0), (14, s252_14), (28, s252_28), (51, s252_51)]
theorem l252_0 : lkc cd252 0 = s252_0 := rfl
theorem l252_14 : lkc cd252 14 = s252_14 := rfl
theorem l252_28 : lkc cd252 28 = s252_28 := rfl
theorem l252_51 : lkc cd252 51 = s252_51 := rfl
theorem k252 : chkM 252 16 true cd252 = true := by decide +kernel
/- FontHouseModel.few(II)V -/
def s253_0 : List E := [(.iconst 1, 1, []), (.aload_n 0, 0, [0]), (.iconst 2, 2, []), (.invokevirtual 365, 0, [244, 16, 33, 8, 0, 0, 0]), (.iadd, 0, []), (.istore_n 3, 0, [3]), (.iload_n 2, 0, [2]), (.iconst 1, 1, []), (.isub, 0, []), (.invokestatic 386, 0, [254, 53, 0, 0, 0]), (.istore 4, 0, [4]), (.iconst 0, 0, []), (.istore 5, 0, [5]), (.nop, 0, [19])]
def s253_19 : List E := [(.iload 5, 0, [5]), (.iload_n 3, 0, [3]), (.if_icmp .ge 115, 0, [137]), (.aload_n 0, 0, [0]), (.getfield 343, 0, [16, 2, 0]), (.ifCond .ne 108, 0, [137]), (.aload_n 0, 0, [0]), (.getfield 45, 10, [16, 15, 81, 1]), (.iload 5, 0, [5]), (.aload_n 0, 0, [0]), (.iload 4, 0, [4]), (.invokevirtual 365, 0, [244, 16, 33, 8, 0, 0, 0]), (.iastore, 0, []), (.aload_n 0, 0, [0]), (.getfield 45, 10, [16, 15, 81, 1]), (.iload 5, 0, [5]), (.iaload, 0, []), (.iload_n 2, 0, [2]), (.if_icmp .lt 7, 0, [60]), (.iconst 1, 1, []), (.goto 4, 0, [61])]
def s253_60 : List E := [(.iconst 0, 0, []), (.nop, 0, [61])]
def s253_61 : List E := [(.istore 6, 0, [6]), (.iconst 0, 0, []), (.istore 7, 0, [7]), (.nop, 0, [66])]
def s253_66 : List E := [(.iload 7, 0, [7]), (.iload 5, 0, [5]), (.if_icmp .ge 38, 0, [108]), (.iload 6, 0, [6]), (.ifCond .ne 20, 0, [95]), (.aload_n 0, 0, [0]), (.getfield 45, 10, [16, 15, 81, 1]), (.iload 7, 0, [7]), (.iaload, 0, []), (.aload_n 0, 0, [0]), (.getfield 45, 10, [16, 15, 81, 1]), (.iload 5, 0, [5]), (.iaload, 0, []), (.if_icmp .ne 7, 0, [99]), (.nop, 0, [95])]
def s253_95 : List E := [(.iconst 1, 1, []), (.goto 4, 0, [100])]
def s253_99 : List E := [(.iconst 0, 0, []), (.nop, 0, [100])]
def s253_100 : List E := [(.istore 6, 0, [6]), (.iinc 7 1, 1, [7]), (.goto (-39), 0, [66])]
def s253_108 : List E := [(.aload_n 0, 0, [0]), (.getfield 343, 0, [16, 2, 0]), (.ifCond .ne 19, 0, [131]), (.iload 6, 0, [6]), (.ifCond .eq 14, 0, [131]), (.aload_n 0, 0, [0]), (.bipush 6, 6, []), (.aload_n 0, 0, [0]), (.getfield 351, 0, [16, 6, 0]), (.invokevirtual 357, 0, [243, 16, 33, 52, 0, 3, 0, 0]), (.pop, 0, []), (.nop, 0, [131])]
def s253_131 : List E := [(.iinc 5 1, 1, [5]), (.goto (-115), 0, [19])]
def s253_137 : List E := [(.iload_n 3, 0, [3]), (.iconst 4, 4, []), (.if_icmp .ne 10, 0, [149]), (.aload_n 0, 0, [0]), (.invokevirtual 361, 0, [242, 16, 33, 31, 0, 0]), (.goto 4, 0, [150])]
def s253_149 : List E := [(.iconst 0, 0, []), (.nop, 0, [150])]
def s253_150 : List E := [(.istore 5, 0, [5]), (.aload_n 0, 0, [0]), (.getfield 343, 0, [16, 2, 0]), (.ifCond .le 4, 0, [160]), (.return_, 0, [])]
def s253_160 : List E := [(.iload_n 3, 0, [3]), (.iconst 1, 1, []), (.if_icmp .ne 15, 0, [177]), (.aload_n 0, 0, [0]), (.iload_n 1, 0, [1]), (.aload_n 0, 0, [0]), (.getfield 45, 10, [16, 15, 81, 1]), (.iconst 0, 0, []), (.iaload, 0, []), (.invokevirtual 389, 0, [255, 16, 33, 31, 0, 100, 0, 0]), (.return_, 0, [])]
def s253_177 : List E := [(.iconst 0, 0, []), (.istore 6, 0, [6]), (.nop, 0, [180])]
def s253_180 : List E := [(.iload 6, 0, [6]), (.iload_n 2, 0, [2]), (.if_icmp .ge 17, 0, [200]), (.aload_n 0, 0, [0]), (.getfield 39, 8, [16, 13, 81, 1]), (.iload 6, 0, [6]), (.iconst 0, 0, []), (.iastore, 0, []), (.iinc 6 1, 1, [6]), (.goto (-17), 0, [180])]
def s253_200 : List E := [(.aload_n 0, 0, [0]), (.getfield 39, 8, [16, 13, 81, 1]), (.aload_n 0, 0, [0]), (.getfield 45, 10, [16, 15, 81, 1]), (.iconst 0, 0, []), (.iaload, 0, []), (.iload_n 3, 0, [3]), (.iconst 2, 2, []), (.if_icmp .eq 14, 0, [226]), (.iload_n 3, 0, [3]), (.iconst 3, 3, []), (.if_icmp .eq 9, 0, [226]), (.iload 5, 0, [5]), (.iconst 1, 1, []), (.if_icmp .ne 7, 0, [230]), (.nop, 0, [226])]
def s253_226 : List E := [(.iconst 1, 1, []), (.goto 4, 0, [231])]
def s253_230 : List E := [(.iconst 2, 2, []), (.nop, 0, [231])]
def s253_231 : List E := [(.iastore, 0, []), (.aload_n 0, 0, [0]), (.getfield 39, 8, [16, 13, 81, 1]), (.aload_n 0, 0, [0]), (.getfield 45, 10, [16, 15, 81, 1]), (.iconst 1, 1, []), (.iaload, 0, []), (.iload_n 3, 0, [3]), (.iconst 2, 2, []), (.if_icmp .ne 7, 0, [251]), (.iconst 1, 1, []), (.goto 4, 0, [252])]
def s253_251 : List E := [(.iconst 2, 2, []), (.nop, 0, [252])]
def s253_252 : List E := [(.iastore, 0, []), (.iload_n 3, 0, [3]), (.iconst 2, 2, []), (.if_icmp .le 30, 0, [285]), (.aload_n 0, 0, [0]), (.getfield 39, 8, [16, 13, 81, 1]), (.aload_n 0, 0, [0]), (.getfield 45, 10, [16, 15, 81, 1]), (.iconst 2, 2, []), (.iaload, 0, []), (.iload_n 3, 0, [3]), (.iconst 4, 4, []), (.if_icmp .ne 13, 0, [283]), (.iload 5, 0, [5]), (.iconst 1, 1, []), (.if_icmp .ne 7, 0, [283]), (.iconst 3, 3, []), (.goto 4, 0, [284])]
def s253_283 : List E := [(.iconst 2, 2, []), (.nop, 0, [284])]
def s253_284 : List E := [(.iastore, 0, []), (.nop, 0, [285])]
def s253_285 : List E := [(.iload_n 3, 0, [3]), (.iconst 3, 3, []), (.if_icmp .le 25, 0, [312]), (.aload_n 0, 0, [0]), (.getfield 39, 8, [16, 13, 81, 1]), (.aload_n 0, 0, [0]), (.getfield 45, 10, [16, 15, 81, 1]), (.iconst 3, 3, []), (.iaload, 0, []), (.iload 5, 0, [5]), (.iconst 1, 1, []), (.if_icmp .ne 7, 0, [310]), (.iconst 3, 3, []), (.goto 4, 0, [311])]
def s253_310 : List E := [(.iconst 2, 2, []), (.nop, 0, [311])]
def s253_311 : List E := [(.iastore, 0, []), (.nop, 0, [312])]
def s253_312 : List E := [(.aload_n 0, 0, [0]), (.iload_n 1, 0, [1]), (.iload_n 2, 0, [2]), (.invokevirtual 383, 0, [257, 16, 33, 27, 0, 100, 0, 0]), (.return_, 0, [])]
def cd253 : List (Nat × List E) := [(0, s253_0), (19, s253_19), (60, s253_60), (61, s253_61), (66, s253_66), (95, s253_95), (99, s253_99), (100, s253_100), (108, s253_108), (131, s253_131), (137, s253_137), (149, s253_149), (150, s253_150), (160, s253_160), (177, s253_177), (180, s253_180), (200, s253_200), (226, s253_226), (230, s253_230), (231, s253_231), (251, s253_251), (252, s253_252), (283, s253_283), (284, s253_284), (285, s253_285), (310, s253_310), (311, s253_311), (312, s253_312)]
theorem l253_0 : lkc cd253 0 = s253_0 := rfl
theorem l253_19 : lkc cd253 19 = s253_19 := rfl
theorem l253_60 : lkc cd253 60 = s253_60 := rfl
theorem l253_61 : lkc cd253 61 = s253_61 := rfl
theorem l253_66 : lkc cd253 66 = s253_66 := rfl
theorem l253_95 : lkc cd253 95 = s253_95 := rfl
theorem l253_99 : lkc cd253 99 = s253_99 := rfl
theorem l253_100 : lkc cd253 100 = s253_100 := rfl
theorem l253_108 : lkc cd253 108 = s253_108 := rfl
theorem l253_131 : lkc cd253 131 = s253_131 := rfl
theorem l253_137 : lkc cd253 137 = s253_137 := rfl
theorem l253_149 : lkc cd253 149 = s253_149 := rfl
theorem l253_150 : lkc cd253 150 = s253_150 := rfl
theorem l253_160 : lkc cd253 160 = s253_160 := rfl
theorem l253_177 : lkc cd253 177 = s253_177 := rfl
theorem l253_180 : lkc cd253 180 = s253_180 := rfl
theorem l253_200 : lkc cd253 200 = s253_200 := rfl
theorem l253_226 : lkc cd253 226 = s253_226 := rfl
theorem l253_230 : lkc cd253 230 = s253_230 := rfl
theorem l253_231 : lkc cd253 231 = s253_231 := rfl
theorem l253_251 : lkc cd253 251 = s253_251 := rfl
theorem l253_252 : lkc cd253 252 = s253_252 := rfl
theorem l253_283 : lkc cd253 283 = s253_283 := rfl
theorem l253_284 : lkc cd253 284 = s253_284 := rfl
theorem l253_285 : lkc cd253 285 = s253_285 := rfl
theorem l253_310 : lkc cd253 310 = s253_310 := rfl
theorem l253_311 : lkc cd253 311 = s253_311 := rfl
theorem l253_312 : lkc cd253 312 = s253_312 := rfl
theorem k253 : chkM 253 16 true cd253 = true := by decide +kernel
/- FontHouseModel.bitsOf(I)I -/
def s254_0 : List E := [(.iconst 0, 0, []), (.istore_n 1, 0, [1]), (.nop, 0, [2])]
def s254_2 : List E := [(.iload_n 0, 0, [0]), (.iload_n 1, 0, [1]), (.ishr, 0, []), (.ifCond .le 9, 0, [14]), (.iinc 1 1, 1, [1]), (.goto (-9), 0, [2])]
def s254_14 : List E := [(.iload_n 1, 0, [1]), (.ireturn, 0, [])]
def cd254 : List (Nat × List E) := [(0, s254_0), (2, s254_2), (14, s254_14)]
theorem l254_0 : lkc cd254 0 = s254_0 := rfl
theorem l254_2 : lkc cd254 2 = s254_2 := rfl
theorem l254_14 : lkc cd254 14 = s254_14 := rfl
theorem k254 : chkM 254 16 true cd254 = true := by decide +kernel
/- FontHouseModel.alone(II)V -/
def s255_0 : List E := [(.iconst 0, 0, []), (.istore_n 3, 0, [3]), (.nop, 0, [2])]
def s255_2 : List E := [(.iload_n 3, 0, [3]), (.bipush 16, 16, []), (.if_icmp .ge 21, 0, [26]), (.aload_n 0, 0, [0]), (.getfield 31, 6, [16, 11, 81, 1]), (.bipush 16, 16, []), (.iload_n 1, 0, [1]), (.imul, 0, []), (.iload_n 3, 0, [3]), (.iadd, 0, []), (.iconst 0, 0, []), (.iastore, 0, []), (.iinc 3 1, 1, [3]), (.goto (-21), 0, [2])]
def s255_26 : List E := [(.aload_n 0, 0, [0]), (.getfield 31, 6, [16, 11, 81, 1]), (.bipush 16, 16, []), (.iload_n 1, 0, [1]), (.imul, 0, []), (.iconst 1, 1, []), (.iastore, 0, []), (.aload_n 0, 0, [0]), (.getfield 35, 7, [16, 12, 85, 1]), (.iload_n 1, 0, [1]), (.invokestatic 369, 0, [256, 8, 0, 0, 0]), (.iload_n 2, 0, [2]), (.i2s, 0, []), (.sastore, 0, []), (.return_, 0, [])]
def cd255 : List (Nat × List E) := [(0, s255_0), (2, s255_2), (26, s255_26)]
theorem l255_0 : lkc cd255 0 = s255_0 := rfl
theorem l255_2 : lkc cd255 2 = s255_2 := rfl
theorem l255_26 : lkc cd255 26 = s255_26 := rfl
theorem k255 : chkM 255 16 true cd255 = true := by decide +kernel
/- FontHouseModel.beginOf(I)I -/
def s256_0 : List E := [(.iload_n 0, 0, [0]), (.sipush 256, 256, []), (.if_icmp .ge 11, 0, [15]), (.sipush 256, 256, []), (.iload_n 0, 0, [0]), (.imul, 0, []), (.goto 97, 0, [109])]
def s256_15 : List E := [(.iload_n 0, 0, [0]), (.sipush 512, 512, []), (.if_icmp .ge 19, 0, [38]), (.ldc_w 346, 65536, []), (.sipush 704, 704, []), (.iload_n 0, 0, [0]), (.sipush 256, 256, []), (.isub, 0, []), (.imul, 0, []), (.iadd, 0, []), (.goto 74, 0, [109])]
def s256_38 : List E := [(.iload_n 0, 0, [0]), (.sipush 768, 768, []), (.if_icmp .ge 19, 0, [61]), (.ldc_w 347, 245760, []), (.sipush 520, 520, []), (.iload_n 0, 0, [0]), (.sipush 512, 512, []), (.isub, 0, []), (.imul, 0, []), (.iadd, 0, []), (.goto 51, 0, [109])]
def s256_61 : List E := [(.iload_n 0, 0, [0]), (.sipush 771, 771, []), (.if_icmp .ge 19, 0, [84]), (.ldc_w 348, 378880, []), (.sipush 258, 258, []), (.iload_n 0, 0, [0]), (.sipush 768, 768, []), (.isub, 0, []), (.imul, 0, []), (.iadd, 0, []), (.goto 28, 0, [109])]
def s256_84 : List E := [(.iload_n 0, 0, [0]), (.sipush 774, 774, []), (.if_icmp .ge 18, 0, [106]), (.ldc_w 349, 379654, []), (.bipush 26, 26, []), (.iload_n 0, 0, [0]), (.sipush 771, 771, []), (.isub, 0, []), (.imul, 0, []), (.iadd, 0, []), (.goto 6, 0, [109])]
def s256_106 : List E := [(.ldc_w 350, 379732, []), (.nop, 0, [109])]
def s256_109 : List E := [(.ireturn, 0, [])]
def cd256 : List (Nat × List E) := [(0, s256_0), (15, s256_15), (38, s256_38), (61, s256_61), (84, s256_84), (106, s256_106), (109, s256_109)]
theorem l256_0 : lkc cd256 0 = s256_0 := rfl
theorem l256_15 : lkc cd256 15 = s256_15 := rfl
theorem l256_38 : lkc cd256 38 = s256_38 := rfl
theorem l256_61 : lkc cd256 61 = s256_61 := rfl
theorem l256_84 : lkc cd256 84 = s256_84 := rfl
theorem l256_106 : lkc cd256 106 = s256_106 := rfl
theorem l256_109 : lkc cd256 109 = s256_109 := rfl
theorem k256 : chkM 256 16 true cd256 = true := by decide +kernel
/- FontHouseModel.words(II)V -/
def s257_0 : List E := [(.bipush 16, 16, []), (.iload_n 1, 0, [1]), (.imul, 0, []), (.istore_n 3, 0, [3]), (.iload_n 1, 0, [1]), (.invokestatic 369, 0, [256, 8, 0, 0, 0]), (.istore 4, 0, [4]), (.iconst 0, 0, []), (.istore 5, 0, [5]), (.iconst 0, 0, []), (.istore 6, 0, [6]), (.nop, 0, [17])]
def s257_17 : List E := [(.iload 6, 0, [6]), (.bipush 16, 16, []), (.if_icmp .ge 19, 0, [40]), (.aload_n 0, 0, [0]), (.getfield 31, 6, [16, 11, 81, 1]), (.iload_n 3, 0, [3]), (.iload 6, 0, [6]), (.iadd, 0, []), (.iconst 0, 0, []), (.iastore, 0, []), (.iinc 6 1, 1, [6]), (.goto (-20), 0, [17])]
def s257_40 : List E := [(.iconst 1, 1, []), (.istore 6, 0, [6]), (.nop, 0, [43])]
def s257_43 : List E := [(.iload 6, 0, [6]), (.bipush 16, 16, []), (.if_icmp .ge 65, 0, [112]), (.iconst 0, 0, []), (.istore 7, 0, [7]), (.nop, 0, [53])]
def s257_53 : List E := [(.iload 7, 0, [7]), (.iload_n 2, 0, [2]), (.if_icmp .ge 50, 0, [106]), (.aload_n 0, 0, [0]), (.getfield 39, 8, [16, 13, 81, 1]), (.iload 7, 0, [7]), (.iaload, 0, []), (.iload 6, 0, [6]), (.if_icmp .ne 32, 0, [100]), (.aload_n 0, 0, [0]), (.getfield 35, 7, [16, 12, 85, 1]), (.iload 4, 0, [4]), (.iload 5, 0, [5]), (.iadd, 0, []), (.iload 7, 0, [7]), (.i2s, 0, []), (.sastore, 0, []), (.iinc 5 1, 1, [5]), (.aload_n 0, 0, [0]), (.getfield 31, 6, [16, 11, 81, 1]), (.iload_n 3, 0, [3]), (.iload 6, 0, [6]), (.iadd, 0, []), (.dup2, 0, []), (.iaload, 0, []), (.iconst 1, 1, []), (.iadd, 0, []), (.iastore, 0, []), (.nop, 0, [100])]
def s257_100 : List E := [(.iinc 7 1, 1, [7]), (.goto (-50), 0, [53])]
def s257_106 : List E := [(.iinc 6 1, 1, [6]), (.goto (-66), 0, [43])]
def s257_112 : List E := [(.return_, 0, [])]
def cd257 : List (Nat × List E) := [(0, s257_0), (17, s257_17), (40, s257_40), (43, s257_43), (53, s257_53), (100, s257_100), (106, s257_106), (112, s257_112)]
theorem l257_0 : lkc cd257 0 = s257_0 := rfl
theorem l257_17 : lkc cd257 17 = s257_17 := rfl
theorem l257_40 : lkc cd257 40 = s257_40 := rfl
theorem l257_43 : lkc cd257 43 = s257_43 := rfl
theorem l257_53 : lkc cd257 53 = s257_53 := rfl
theorem l257_100 : lkc cd257 100 = s257_100 := rfl
theorem l257_106 : lkc cd257 106 = s257_106 := rfl
theorem l257_112 : lkc cd257 112 = s257_112 := rfl
theorem k257 : chkM 257 16 true cd257 = true := by decide +kernel
/- FontHouseModel.lengthSymbols(I)V -/
def s258_0 : List E := [(.bipush 32, 32, []), (.istore_n 2, 0, [2]), (.iconst 0, 0, []), (.istore_n 3, 0, [3]), (.iconst 0, 0, []), (.istore 4, 0, [4]), (.iconst 0, 0, []), (.istore 5, 0, [5]), (.nop, 0, [11])]
def s258_11 : List E := [(.iload 5, 0, [5]), (.bipush 18, 18, []), (.if_icmp .ge 17, 0, [32]), (.aload_n 0, 0, [0]), (.getfield 42, 9, [16, 14, 81, 1]), (.iload 5, 0, [5]), (.iconst 0, 0, []), (.iastore, 0, []), (.iinc 5 1, 1, [5]), (.goto (-18), 0, [11])]
def s258_32 : List E := [(.iload_n 1, 0, [1]), (.istore 5, 0, [5]), (.nop, 0, [35])]
def s258_35 : List E := [(.iload 5, 0, [5]), (.bipush 18, 18, []), (.if_icmp .ge 123, 0, [162]), (.iload_n 2, 0, [2]), (.ifCond .le 119, 0, [162]), (.aload_n 0, 0, [0]), (.getfield 343, 0, [16, 2, 0]), (.ifCond .ne 112, 0, [162]), (.aload_n 0, 0, [0]), (.iconst 2, 2, []), (.invokevirtual 365, 0, [244, 16, 33, 8, 0, 0, 0]), (.istore 6, 0, [6]), (.iload 6, 0, [6]), (.ifCond .ne 7, 0, [69]), (.iconst 0, 0, []), (.goto 46, 0, [112])]
def s258_69 : List E := [(.iload 6, 0, [6]), (.iconst 1, 1, []), (.if_icmp .ne 7, 0, [79]), (.iconst 4, 4, []), (.goto 36, 0, [112])]
def s258_79 : List E := [(.iload 6, 0, [6]), (.iconst 2, 2, []), (.if_icmp .ne 7, 0, [89]), (.iconst 3, 3, []), (.goto 26, 0, [112])]
def s258_89 : List E := [(.aload_n 0, 0, [0]), (.invokevirtual 361, 0, [242, 16, 33, 31, 0, 0]), (.ifCond .ne 7, 0, [100]), (.iconst 2, 2, []), (.goto 15, 0, [112])]
def s258_100 : List E := [(.aload_n 0, 0, [0]), (.invokevirtual 361, 0, [242, 16, 33, 31, 0, 0]), (.ifCond .ne 7, 0, [111]), (.iconst 1, 1, []), (.goto 4, 0, [112])]
def s258_111 : List E := [(.iconst 5, 5, []), (.nop, 0, [112])]
def s258_112 : List E := [(.istore 7, 0, [7]), (.aload_n 0, 0, [0]), (.getfield 343, 0, [16, 2, 0]), (.ifCond .ne 38, 0, [156]), (.iload 7, 0, [7]), (.ifCond .le 33, 0, [156]), (.aload_n 0, 0, [0]), (.getfield 42, 9, [16, 14, 81, 1]), (.iload 5, 0, [5]), (.invokestatic 392, 0, [259, 54, 0, 0, 0]), (.iload 7, 0, [7]), (.iastore, 0, []), (.iinc 3 1, 1, [3]), (.iload 5, 0, [5]), (.invokestatic 392, 0, [259, 54, 0, 0, 0]), (.istore 4, 0, [4]), (.iload_n 2, 0, [2]), (.bipush 32, 32, []), (.iload 7, 0, [7]), (.ishr, 0, []), (.isub, 0, []), (.istore_n 2, 0, [2]), (.nop, 0, [156])]
def s258_156 : List E := [(.iinc 5 1, 1, [5]), (.goto (-124), 0, [35])]
def s258_162 : List E := [(.aload_n 0, 0, [0]), (.getfield 343, 0, [16, 2, 0]), (.ifCond .le 4, 0, [170]), (.return_, 0, [])]
def s258_170 : List E := [(.iload_n 3, 0, [3]), (.ifCond .eq 12, 0, [183]), (.iload_n 3, 0, [3]), (.iconst 1, 1, []), (.if_icmp .le 21, 0, [197]), (.iload_n 2, 0, [2]), (.ifCond .eq 17, 0, [197]), (.nop, 0, [183])]
def s258_183 : List E := [(.aload_n 0, 0, [0]), (.bipush 7, 7, []), (.aload_n 0, 0, [0]), (.getfield 351, 0, [16, 6, 0]), (.invokevirtual 357, 0, [243, 16, 33, 52, 0, 3, 0, 0]), (.pop, 0, []), (.goto 59, 0, [253])]
def s258_197 : List E := [(.iload_n 3, 0, [3]), (.iconst 1, 1, []), (.if_icmp .ne 15, 0, [214]), (.aload_n 0, 0, [0]), (.sipush 774, 774, []), (.iload 4, 0, [4]), (.invokevirtual 389, 0, [255, 16, 33, 31, 0, 100, 0, 0]), (.goto 42, 0, [253])]
def s258_214 : List E := [(.iconst 0, 0, []), (.istore 5, 0, [5]), (.nop, 0, [217])]
def s258_217 : List E := [(.iload 5, 0, [5]), (.bipush 18, 18, []), (.if_icmp .ge 23, 0, [244]), (.aload_n 0, 0, [0]), (.getfield 39, 8, [16, 13, 81, 1]), (.iload 5, 0, [5]), (.aload_n 0, 0, [0]), (.getfield 42, 9, [16, 14, 81, 1]), (.iload 5, 0, [5]), (.iaload, 0, []), (.iastore, 0, []), (.iinc 5 1, 1, [5]), (.goto (-24), 0, [217])]
def s258_244 : List E := [(.aload_n 0, 0, [0]), (.sipush 774, 774, []), (.bipush 18, 18, []), (.invokevirtual 383, 0, [257, 16, 33, 27, 0, 100, 0, 0]), (.nop, 0, [253])]
def s258_253 : List E := [(.return_, 0, [])]
def cd258 : List (Nat × List E) := [(0, s258_0), (11, s258_11), (32, s258_32), (35, s258_35), (69, s258_69), (79, s258_79), (89, s258_89), (100, s258_100), (111, s258_111), (112, s258_112), (156, s258_156), (162, s258_162), (170, s258_170), (183, s258_183), (197, s258_197), (214, s258_214), (217, s258_217), (244, s258_244), (253, s258_253)]
theorem l258_0 : lkc cd258 0 = s258_0 := rfl
theorem l258_11 : lkc cd258 11 = s258_11 := rfl
theorem l258_32 : lkc cd258 32 = s258_32 := rfl
theorem l258_35 : lkc cd258 35 = s258_35 := rfl
theorem l258_69 : lkc cd258 69 = s258_69 := rfl
theorem l258_79 : lkc cd258 79 = s258_79 := rfl
theorem l258_89 : lkc cd258 89 = s258_89 := rfl
theorem l258_100 : lkc cd258 100 = s258_100 := rfl
theorem l258_111 : lkc cd258 111 = s258_111 := rfl
theorem l258_112 : lkc cd258 112 = s258_112 := rfl
theorem l258_156 : lkc cd258 156 = s258_156 := rfl
theorem l258_162 : lkc cd258 162 = s258_162 := rfl
theorem l258_170 : lkc cd258 170 = s258_170 := rfl
theorem l258_183 : lkc cd258 183 = s258_183 := rfl
theorem l258_197 : lkc cd258 197 = s258_197 := rfl
theorem l258_214 : lkc cd258 214 = s258_214 := rfl
theorem l258_217 : lkc cd258 217 = s258_217 := rfl
theorem l258_244 : lkc cd258 244 = s258_244 := rfl
theorem l258_253 : lkc cd258 253 = s258_253 := rfl
theorem k258 : chkM 258 16 true cd258 = true := by decide +kernel
/- FontHouseModel.lengthSymbol(I)I -/
def s259_0 : List E := [(.iload_n 0, 0, [0]), (.iconst 4, 4, []), (.if_icmp .ge 9, 0, [11]), (.iload_n 0, 0, [0]), (.iconst 1, 1, []), (.iadd, 0, []), (.goto 57, 0, [65])]
def s259_11 : List E := [(.iload_n 0, 0, [0]), (.iconst 4, 4, []), (.if_icmp .ne 7, 0, [20]), (.iconst 0, 0, []), (.goto 48, 0, [65])]
def s259_20 : List E := [(.iload_n 0, 0, [0]), (.iconst 5, 5, []), (.if_icmp .ne 7, 0, [29]), (.iconst 5, 5, []), (.goto 39, 0, [65])]
def s259_29 : List E := [(.iload_n 0, 0, [0]), (.bipush 6, 6, []), (.if_icmp .ne 8, 0, [40]), (.bipush 17, 17, []), (.goto 28, 0, [65])]
def s259_40 : List E := [(.iload_n 0, 0, [0]), (.bipush 7, 7, []), (.if_icmp .ne 8, 0, [51]), (.bipush 6, 6, []), (.goto 17, 0, [65])]
def s259_51 : List E := [(.iload_n 0, 0, [0]), (.bipush 8, 8, []), (.if_icmp .ne 8, 0, [62]), (.bipush 16, 16, []), (.goto 6, 0, [65])]
def s259_62 : List E := [(.iload_n 0, 0, [0]), (.iconst 2, 2, []), (.isub, 0, []), (.nop, 0, [65])]
def s259_65 : List E := [(.ireturn, 0, [])]
def cd259 : List (Nat × List E) := [(0, s259_0), (11, s259_11), (20, s259_20), (29, s259_29), (40, s259_40), (51, s259_51), (62, s259_62), (65, s259_65)]
theorem l259_0 : lkc cd259 0 = s259_0 := rfl
theorem l259_11 : lkc cd259 11 = s259_11 := rfl
theorem l259_20 : lkc cd259 20 = s259_20 := rfl
theorem l259_29 : lkc cd259 29 = s259_29 := rfl
theorem l259_40 : lkc cd259 40 = s259_40 := rfl
theorem l259_51 : lkc cd259 51 = s259_51 := rfl
theorem l259_62 : lkc cd259 62 = s259_62 := rfl
theorem l259_65 : lkc cd259 65 = s259_65 := rfl
theorem k259 : chkM 259 16 true cd259 = true := by decide +kernel
/- FontHouseModel.lengths(I)V -/
def s260_0 : List E := [(.ldc_w 395, 32768, []), (.istore_n 2, 0, [2]), (.bipush 8, 8, []), (.istore_n 3, 0, [3]), (.iconst 0, 0, []), (.istore 4, 0, [4]), (.iconst 0, 0, []), (.istore 5, 0, [5]), (.iconst 0, 0, []), (.istore 6, 0, [6]), (.nop, 0, [16])]
def s260_16 : List E := [(.iload 6, 0, [6]), (.iload_n 1, 0, [1]), (.if_icmp .ge 251, 0, [270]), (.iload_n 2, 0, [2]), (.ifCond .le 247, 0, [270]), (.aload_n 0, 0, [0]), (.getfield 343, 0, [16, 2, 0]), (.ifCond .ne 240, 0, [270]), (.aload_n 0, 0, [0]), (.sipush 774, 774, []), (.invokevirtual 396, 0, [261, 16, 33, 8, 0, 0, 0]), (.istore 7, 0, [7]), (.iload 7, 0, [7]), (.bipush 16, 16, []), (.if_icmp .ge 49, 0, [95]), (.aload_n 0, 0, [0]), (.getfield 343, 0, [16, 2, 0]), (.ifCond .ne 15, 0, [68]), (.aload_n 0, 0, [0]), (.getfield 39, 8, [16, 13, 81, 1]), (.iload 6, 0, [6]), (.iload 7, 0, [7]), (.iastore, 0, []), (.iinc 6 1, 1, [6]), (.nop, 0, [68])]
def s260_68 : List E := [(.iload 7, 0, [7]), (.ifCond .le 15, 0, [85]), (.iload 7, 0, [7]), (.istore_n 3, 0, [3]), (.iload_n 2, 0, [2]), (.ldc_w 395, 32768, []), (.iload 7, 0, [7]), (.ishr, 0, []), (.isub, 0, []), (.istore_n 2, 0, [2]), (.nop, 0, [85])]
def s260_85 : List E := [(.iload 7, 0, [7]), (.istore 4, 0, [4]), (.iconst 0, 0, []), (.istore 5, 0, [5]), (.goto 175, 0, [267])]
def s260_95 : List E := [(.aload_n 0, 0, [0]), (.iload 7, 0, [7]), (.bipush 14, 14, []), (.isub, 0, []), (.invokevirtual 365, 0, [244, 16, 33, 13, 0, 0, 0]), (.istore 8, 0, [8]), (.iload 7, 0, [7]), (.iload 4, 0, [4]), (.if_icmp .ne 34, 0, [144]), (.iload 5, 0, [5]), (.ifCond .le 29, 0, [144]), (.iload 7, 0, [7]), (.bipush 16, 16, []), (.if_icmp .ne 7, 0, [129]), (.iconst 4, 4, []), (.goto 5, 0, [131])]
def s260_129 : List E := [(.bipush 8, 8, []), (.nop, 0, [131])]
def s260_131 : List E := [(.iload 5, 0, [5]), (.iconst 2, 2, []), (.isub, 0, []), (.imul, 0, []), (.iconst 3, 3, []), (.iadd, 0, []), (.iload 8, 0, [8]), (.iadd, 0, []), (.goto 7, 0, [148])]
def s260_144 : List E := [(.iconst 3, 3, []), (.iload 8, 0, [8]), (.iadd, 0, []), (.nop, 0, [148])]
def s260_148 : List E := [(.istore 9, 0, [9]), (.iload 9, 0, [9]), (.iload 7, 0, [7]), (.iload 4, 0, [4]), (.if_icmp .ne 8, 0, [164]), (.iload 5, 0, [5]), (.goto 4, 0, [165])]
def s260_164 : List E := [(.iconst 0, 0, []), (.nop, 0, [165])]
def s260_165 : List E := [(.isub, 0, []), (.istore 10, 0, [10]), (.iload 7, 0, [7]), (.istore 4, 0, [4]), (.iload 9, 0, [9]), (.istore 5, 0, [5]), (.aload_n 0, 0, [0]), (.getfield 343, 0, [16, 2, 0]), (.ifCond .ne 23, 0, [203]), (.iload 6, 0, [6]), (.iload 10, 0, [10]), (.iadd, 0, []), (.iload_n 1, 0, [1]), (.if_icmp .le 14, 0, [203]), (.aload_n 0, 0, [0]), (.bipush 8, 8, []), (.aload_n 0, 0, [0]), (.getfield 351, 0, [16, 6, 0]), (.invokevirtual 357, 0, [243, 16, 33, 57, 0, 3, 0, 0]), (.pop, 0, []), (.nop, 0, [203])]
def s260_203 : List E := [(.iconst 0, 0, []), (.istore 11, 0, [11]), (.nop, 0, [206])]
def s260_206 : List E := [(.iload 11, 0, [11]), (.iload 10, 0, [10]), (.if_icmp .ge 57, 0, [267]), (.aload_n 0, 0, [0]), (.getfield 343, 0, [16, 2, 0]), (.ifCond .ne 50, 0, [267]), (.aload_n 0, 0, [0]), (.getfield 39, 8, [16, 13, 81, 1]), (.iload 6, 0, [6]), (.iload 7, 0, [7]), (.bipush 16, 16, []), (.if_icmp .ne 7, 0, [237]), (.iload_n 3, 0, [3]), (.goto 4, 0, [238])]
def s260_237 : List E := [(.iconst 0, 0, []), (.nop, 0, [238])]
def s260_238 : List E := [(.iastore, 0, []), (.iinc 6 1, 1, [6]), (.iload_n 2, 0, [2]), (.iload 7, 0, [7]), (.bipush 16, 16, []), (.if_icmp .ne 11, 0, [258]), (.ldc_w 395, 32768, []), (.iload_n 3, 0, [3]), (.ishr, 0, []), (.goto 4, 0, [259])]
def s260_258 : List E := [(.iconst 0, 0, []), (.nop, 0, [259])]
def s260_259 : List E := [(.isub, 0, []), (.istore_n 2, 0, [2]), (.iinc 11 1, 1, [11]), (.goto (-58), 0, [206])]
def s260_267 : List E := [(.goto (-251), 0, [16])]
def s260_270 : List E := [(.aload_n 0, 0, [0]), (.getfield 343, 0, [16, 2, 0]), (.ifCond .ne 18, 0, [292]), (.iload_n 2, 0, [2]), (.ifCond .eq 14, 0, [292]), (.aload_n 0, 0, [0]), (.bipush 8, 8, []), (.aload_n 0, 0, [0]), (.getfield 351, 0, [16, 6, 0]), (.invokevirtual 357, 0, [243, 16, 33, 57, 0, 3, 0, 0]), (.pop, 0, []), (.nop, 0, [292])]
def s260_292 : List E := [(.iload 6, 0, [6]), (.istore 7, 0, [7]), (.nop, 0, [296])]
def s260_296 : List E := [(.iload 7, 0, [7]), (.iload_n 1, 0, [1]), (.if_icmp .ge 17, 0, [316]), (.aload_n 0, 0, [0]), (.getfield 39, 8, [16, 13, 81, 1]), (.iload 7, 0, [7]), (.iconst 0, 0, []), (.iastore, 0, []), (.iinc 7 1, 1, [7]), (.goto (-17), 0, [296])]
def s260_316 : List E := [(.return_, 0, [])]
def cd260 : List (Nat × List E) := [(0, s260_0), (16, s260_16), (68, s260_68), (85, s260_85), (95, s260_95), (129, s260_129), (131, s260_131), (144, s260_144), (148, s260_148), (164, s260_164), (165, s260_165), (203, s260_203), (206, s260_206), (237, s260_237), (238, s260_238), (258, s260_258), (259, s260_259), (267, s260_267), (270, s260_270), (292, s260_292), (296, s260_296), (316, s260_316)]
theorem l260_0 : lkc cd260 0 = s260_0 := rfl
theorem l260_16 : lkc cd260 16 = s260_16 := rfl
theorem l260_68 : lkc cd260 68 = s260_68 := rfl
theorem l260_85 : lkc cd260 85 = s260_85 := rfl
theorem l260_95 : lkc cd260 95 = s260_95 := rfl
theorem l260_129 : lkc cd260 129 = s260_129 := rfl
theorem l260_131 : lkc cd260 131 = s260_131 := rfl
theorem l260_144 : lkc cd260 144 = s260_144 := rfl
theorem l260_148 : lkc cd260 148 = s260_148 := rfl
theorem l260_164 : lkc cd260 164 = s260_164 := rfl
theorem l260_165 : lkc cd260 165 = s260_165 := rfl
theorem l260_203 : lkc cd260 203 = s260_203 := rfl
theorem l260_206 : lkc cd260 206 = s260_206 := rfl
theorem l260_237 : lkc cd260 237 = s260_237 := rfl
theorem l260_238 : lkc cd260 238 = s260_238 := rfl
theorem l260_258 : lkc cd260 258 = s260_258 := rfl
theorem l260_259 : lkc cd260 259 = s260_259 := rfl
theorem l260_267 : lkc cd260 267 = s260_267 := rfl
theorem l260_270 : lkc cd260 270 = s260_270 := rfl
theorem l260_292 : lkc cd260 292 = s260_292 := rfl
theorem l260_296 : lkc cd260 296 = s260_296 := rfl
theorem l260_316 : lkc cd260 316 = s260_316 := rfl
theorem k260 : chkM 260 16 true cd260 = true := by decide +kernel
/- FontHouseModel.symbol(I)I -/
def s261_0 : List E := [(.bipush 16, 16, []), (.iload_n 1, 0, [1]), (.imul, 0, []), (.istore_n 2, 0, [2]), (.iload_n 1, 0, [1]), (.invokestatic 369, 0, [256, 31, 0, 0, 0]), (.istore_n 3, 0, [3]), (.aload_n 0, 0, [0]), (.getfield 31, 6, [16, 11, 81, 1]), (.iload_n 2, 0, [2]), (.iaload, 0, []), (.iconst 1, 1, []), (.if_icmp .ne 10, 0, [27]), (.aload_n 0, 0, [0]), (.getfield 35, 7, [16, 12, 85, 1]), (.iload_n 3, 0, [3]), (.saload, 0, []), (.ireturn, 0, [])]
def s261_27 : List E := [(.iconst 0, 0, []), (.istore 4, 0, [4]), (.iconst 0, 0, []), (.istore 5, 0, [5]), (.iconst 0, 0, []), (.istore 6, 0, [6]), (.iconst 1, 1, []), (.istore 7, 0, [7]), (.nop, 0, [39])]
def s261_39 : List E := [(.iload 7, 0, [7]), (.bipush 16, 16, []), (.if_icmp .ge 91, 0, [134]), (.aload_n 0, 0, [0]), (.getfield 343, 0, [16, 2, 0]), (.ifCond .ne 84, 0, [134]), (.iload 4, 0, [4]), (.iconst 1, 1, []), (.ishl, 0, []), (.aload_n 0, 0, [0]), (.invokevirtual 361, 0, [242, 16, 33, 8, 0, 0]), (.ior, 0, []), (.istore 4, 0, [4]), (.aload_n 0, 0, [0]), (.getfield 31, 6, [16, 11, 81, 1]), (.iload_n 2, 0, [2]), (.iload 7, 0, [7]), (.iadd, 0, []), (.iaload, 0, []), (.istore 8, 0, [8]), (.iload 4, 0, [4]), (.iload 5, 0, [5]), (.isub, 0, []), (.iload 8, 0, [8]), (.if_icmp .ge 30, 0, [112]), (.aload_n 0, 0, [0]), (.getfield 343, 0, [16, 2, 0]), (.ifCond .le 7, 0, [96]), (.iconst 0, 0, []), (.goto 18, 0, [111])]
def s261_96 : List E := [(.aload_n 0, 0, [0]), (.getfield 35, 7, [16, 12, 85, 1]), (.iload_n 3, 0, [3]), (.iload 6, 0, [6]), (.iadd, 0, []), (.iload 4, 0, [4]), (.iadd, 0, []), (.iload 5, 0, [5]), (.isub, 0, []), (.saload, 0, []), (.nop, 0, [111])]
def s261_111 : List E := [(.ireturn, 0, [])]
def s261_112 : List E := [(.iload 6, 0, [6]), (.iload 8, 0, [8]), (.iadd, 0, []), (.istore 6, 0, [6]), (.iload 5, 0, [5]), (.iload 8, 0, [8]), (.iadd, 0, []), (.iconst 1, 1, []), (.ishl, 0, []), (.istore 5, 0, [5]), (.iinc 7 1, 1, [7]), (.goto (-92), 0, [39])]
def s261_134 : List E := [(.iconst 0, 0, []), (.ireturn, 0, [])]
def cd261 : List (Nat × List E) := [(0, s261_0), (27, s261_27), (39, s261_39), (96, s261_96), (111, s261_111), (112, s261_112), (134, s261_134)]
theorem l261_0 : lkc cd261 0 = s261_0 := rfl
theorem l261_27 : lkc cd261 27 = s261_27 := rfl
theorem l261_39 : lkc cd261 39 = s261_39 := rfl
theorem l261_96 : lkc cd261 96 = s261_96 := rfl
theorem l261_111 : lkc cd261 111 = s261_111 := rfl
theorem l261_112 : lkc cd261 112 = s261_112 := rfl
theorem l261_134 : lkc cd261 134 = s261_134 := rfl
theorem k261 : chkM 261 16 true cd261 = true := by decide +kernel
/- FontHouseModel.count(I)I -/
def s262_0 : List E := [(.aload_n 0, 0, [0]), (.sipush 771, 771, []), (.iload_n 1, 0, [1]), (.iadd, 0, []), (.invokevirtual 396, 0, [261, 16, 33, 8, 0, 0, 0]), (.istore_n 2, 0, [2]), (.aload_n 0, 0, [0]), (.getfield 343, 0, [16, 2, 0]), (.ifCond .le 7, 0, [21]), (.iconst 0, 0, []), (.goto 16, 0, [34])]
def s262_21 : List E := [(.iload_n 2, 0, [2]), (.invokestatic 402, 0, [263, 59, 0, 0, 0]), (.aload_n 0, 0, [0]), (.iload_n 2, 0, [2]), (.invokestatic 405, 0, [264, 59, 0, 0, 0]), (.invokevirtual 365, 0, [244, 16, 33, 13, 0, 0, 0]), (.iadd, 0, []), (.nop, 0, [34])]
def s262_34 : List E := [(.ireturn, 0, [])]
def cd262 : List (Nat × List E) := [(0, s262_0), (21, s262_21), (34, s262_34)]
theorem l262_0 : lkc cd262 0 = s262_0 := rfl
theorem l262_21 : lkc cd262 21 = s262_21 := rfl
theorem l262_34 : lkc cd262 34 = s262_34 := rfl
theorem k262 : chkM 262 16 true cd262 = true := by decide +kernel
/- FontHouseModel.countBase(I)I -/
def s263_0 : List E := [(.iload_n 0, 0, [0]), (.iconst 4, 4, []), (.if_icmp .ge 9, 0, [11]), (.iconst 1, 1, []), (.iconst 4, 4, []), (.iload_n 0, 0, [0]), (.imul, 0, []), (.iadd, 0, []), (.ireturn, 0, [])]
def s263_11 : List E := [(.iload_n 0, 0, [0]), (.bipush 8, 8, []), (.if_icmp .ge 13, 0, [27]), (.bipush 17, 17, []), (.bipush 8, 8, []), (.iload_n 0, 0, [0]), (.iconst 4, 4, []), (.isub, 0, []), (.imul, 0, []), (.iadd, 0, []), (.ireturn, 0, [])]
def s263_27 : List E := [(.iload_n 0, 0, [0]), (.bipush 12, 12, []), (.if_icmp .ge 14, 0, [44]), (.bipush 49, 49, []), (.bipush 16, 16, []), (.iload_n 0, 0, [0]), (.bipush 8, 8, []), (.isub, 0, []), (.imul, 0, []), (.iadd, 0, []), (.ireturn, 0, [])]
def s263_44 : List E := [(.iload_n 0, 0, [0]), (.bipush 16, 16, []), (.if_icmp .ge 14, 0, [61]), (.bipush 113, 113, []), (.bipush 32, 32, []), (.iload_n 0, 0, [0]), (.bipush 12, 12, []), (.isub, 0, []), (.imul, 0, []), (.iadd, 0, []), (.ireturn, 0, [])]
def s263_61 : List E := [(.iload_n 0, 0, [0]), (.tableswitch 46 16 19 #[30, 34, 38, 42], 0, [108, 92, 96, 100, 104])]
def s263_92 : List E := [(.sipush 241, 241, []), (.ireturn, 0, [])]
def s263_96 : List E := [(.sipush 305, 305, []), (.ireturn, 0, [])]
def s263_100 : List E := [(.sipush 369, 369, []), (.ireturn, 0, [])]
def s263_104 : List E := [(.sipush 497, 497, []), (.ireturn, 0, [])]
def s263_108 : List E := [(.iload_n 0, 0, [0]), (.bipush 25, 25, []), (.if_icmp .ne 9, 0, [120]), (.sipush 16625, 16625, []), (.goto 19, 0, [136])]
def s263_120 : List E := [(.sipush 753, 753, []), (.sipush 256, 256, []), (.iload_n 0, 0, [0]), (.bipush 19, 19, []), (.isub, 0, []), (.ishl, 0, []), (.iadd, 0, []), (.sipush 512, 512, []), (.isub, 0, []), (.nop, 0, [136])]
def s263_136 : List E := [(.ireturn, 0, [])]
def cd263 : List (Nat × List E) := [(0, s263_0), (11, s263_11), (27, s263_27), (44, s263_44), (61, s263_61), (92, s263_92), (96, s263_96), (100, s263_100), (104, s263_104), (108, s263_108), (120, s263_120), (136, s263_136)]
theorem l263_0 : lkc cd263 0 = s263_0 := rfl
theorem l263_11 : lkc cd263 11 = s263_11 := rfl
theorem l263_27 : lkc cd263 27 = s263_27 := rfl
theorem l263_44 : lkc cd263 44 = s263_44 := rfl
theorem l263_61 : lkc cd263 61 = s263_61 := rfl
theorem l263_92 : lkc cd263 92 = s263_92 := rfl
theorem l263_96 : lkc cd263 96 = s263_96 := rfl
theorem l263_100 : lkc cd263 100 = s263_100 := rfl
theorem l263_104 : lkc cd263 104 = s263_104 := rfl
theorem l263_108 : lkc cd263 108 = s263_108 := rfl
theorem l263_120 : lkc cd263 120 = s263_120 := rfl
theorem l263_136 : lkc cd263 136 = s263_136 := rfl
theorem k263 : chkM 263 16 true cd263 = true := by decide +kernel
/- FontHouseModel.countBits(I)I -/
def s264_0 : List E := [(.iload_n 0, 0, [0]), (.bipush 16, 16, []), (.if_icmp .ge 11, 0, [14]), (.iconst 2, 2, []), (.iload_n 0, 0, [0]), (.iconst 4, 4, []), (.idiv, 0, []), (.iadd, 0, []), (.goto 29, 0, [40])]
def s264_14 : List E := [(.iload_n 0, 0, [0]), (.bipush 18, 18, []), (.if_icmp .ge 8, 0, [25]), (.bipush 6, 6, []), (.goto 18, 0, [40])]
def s264_25 : List E := [(.iload_n 0, 0, [0]), (.bipush 25, 25, []), (.if_icmp .ne 8, 0, [36]), (.bipush 24, 24, []), (.goto 7, 0, [40])]
def s264_36 : List E := [(.iload_n 0, 0, [0]), (.bipush 11, 11, []), (.isub, 0, []), (.nop, 0, [40])]
def s264_40 : List E := [(.ireturn, 0, [])]
def cd264 : List (Nat × List E) := [(0, s264_0), (14, s264_14), (25, s264_25), (36, s264_36), (40, s264_40)]
theorem l264_0 : lkc cd264 0 = s264_0 := rfl
theorem l264_14 : lkc cd264 14 = s264_14 := rfl
theorem l264_25 : lkc cd264 25 = s264_25 := rfl
theorem l264_36 : lkc cd264 36 = s264_36 := rfl
theorem l264_40 : lkc cd264 40 = s264_40 := rfl
theorem k264 : chkM 264 16 true cd264 = true := by decide +kernel
/- FontHouseModel.map([III)V -/
def s265_0 : List E := [(.aload_n 0, 0, [0]), (.invokevirtual 361, 0, [242, 16, 33, 90, 0, 0]), (.ifCond .ne 7, 0, [11]), (.iconst 0, 0, []), (.goto 10, 0, [18])]
def s265_11 : List E := [(.aload_n 0, 0, [0]), (.iconst 4, 4, []), (.invokevirtual 365, 0, [244, 16, 33, 67, 0, 0, 0]), (.iconst 1, 1, []), (.iadd, 0, []), (.nop, 0, [18])]
def s265_18 : List E := [(.istore 4, 0, [4]), (.aload_n 0, 0, [0]), (.sipush 774, 774, []), (.iload_n 3, 0, [3]), (.iload 4, 0, [4]), (.iadd, 0, []), (.invokevirtual 399, 0, [252, 16, 33, 8, 0, 100, 0, 0]), (.iconst 0, 0, []), (.istore 5, 0, [5]), (.nop, 0, [34])]
def s265_34 : List E := [(.iload 5, 0, [5]), (.iload_n 2, 0, [2]), (.if_icmp .ge 124, 0, [161]), (.aload_n 0, 0, [0]), (.getfield 343, 0, [16, 2, 0]), (.ifCond .ne 117, 0, [161]), (.aload_n 0, 0, [0]), (.sipush 774, 774, []), (.invokevirtual 396, 0, [261, 16, 33, 62, 0, 0, 0]), (.istore 6, 0, [6]), (.iload 6, 0, [6]), (.iload 4, 0, [4]), (.if_icmp .le 18, 0, [78]), (.aload_n 1, 0, [1]), (.iload 5, 0, [5]), (.iload 6, 0, [6]), (.iload 4, 0, [4]), (.isub, 0, []), (.iastore, 0, []), (.iinc 5 1, 1, [5]), (.goto 83, 0, [158])]
def s265_78 : List E := [(.iload 6, 0, [6]), (.ifCond .ne 7, 0, [87]), (.iconst 1, 1, []), (.goto 14, 0, [98])]
def s265_87 : List E := [(.iconst 1, 1, []), (.iload 6, 0, [6]), (.ishl, 0, []), (.aload_n 0, 0, [0]), (.iload 6, 0, [6]), (.invokevirtual 365, 0, [244, 16, 33, 67, 0, 0, 0]), (.iadd, 0, []), (.nop, 0, [98])]
def s265_98 : List E := [(.istore 7, 0, [7]), (.aload_n 0, 0, [0]), (.getfield 343, 0, [16, 2, 0]), (.ifCond .ne 23, 0, [127]), (.iload 5, 0, [5]), (.iload 7, 0, [7]), (.iadd, 0, []), (.iload_n 2, 0, [2]), (.if_icmp .le 14, 0, [127]), (.aload_n 0, 0, [0]), (.bipush 9, 9, []), (.aload_n 0, 0, [0]), (.getfield 351, 0, [16, 6, 0]), (.invokevirtual 357, 0, [243, 16, 33, 111, 0, 3, 0, 0]), (.pop, 0, []), (.nop, 0, [127])]
def s265_127 : List E := [(.iconst 0, 0, []), (.istore 8, 0, [8]), (.nop, 0, [130])]
def s265_130 : List E := [(.iload 8, 0, [8]), (.iload 7, 0, [7]), (.if_icmp .ge 24, 0, [158]), (.aload_n 0, 0, [0]), (.getfield 343, 0, [16, 2, 0]), (.ifCond .ne 17, 0, [158]), (.aload_n 1, 0, [1]), (.iload 5, 0, [5]), (.iconst 0, 0, []), (.iastore, 0, []), (.iinc 5 1, 1, [5]), (.iinc 8 1, 1, [8]), (.goto (-25), 0, [130])]
def s265_158 : List E := [(.goto (-124), 0, [34])]
def s265_161 : List E := [(.aload_n 0, 0, [0]), (.invokevirtual 361, 0, [242, 16, 33, 90, 0, 0]), (.ifCond .eq 10, 0, [175]), (.aload_n 0, 0, [0]), (.getfield 343, 0, [16, 2, 0]), (.ifCond .le 4, 0, [176]), (.nop, 0, [175])]
def s265_175 : List E := [(.return_, 0, [])]
def s265_176 : List E := [(.iconst 0, 0, []), (.istore 6, 0, [6]), (.nop, 0, [179])]
def s265_179 : List E := [(.iload 6, 0, [6]), (.sipush 256, 256, []), (.if_icmp .ge 18, 0, [202]), (.aload_n 0, 0, [0]), (.getfield 69, 18, [16, 23, 81, 1]), (.iload 6, 0, [6]), (.iload 6, 0, [6]), (.iastore, 0, []), (.iinc 6 1, 1, [6]), (.goto (-20), 0, [179])]
def s265_202 : List E := [(.iconst 0, 0, []), (.istore 6, 0, [6]), (.nop, 0, [205])]
def s265_205 : List E := [(.iload 6, 0, [6]), (.iload_n 2, 0, [2]), (.if_icmp .ge 69, 0, [277]), (.aload_n 1, 0, [1]), (.iload 6, 0, [6]), (.iaload, 0, []), (.istore 7, 0, [7]), (.aload_n 0, 0, [0]), (.getfield 69, 18, [16, 23, 81, 1]), (.iload 7, 0, [7]), (.iaload, 0, []), (.istore 8, 0, [8]), (.iload 7, 0, [7]), (.istore 9, 0, [9]), (.nop, 0, [230])]
def s265_230 : List E := [(.iload 9, 0, [9]), (.ifCond .le 25, 0, [257]), (.aload_n 0, 0, [0]), (.getfield 69, 18, [16, 23, 81, 1]), (.iload 9, 0, [9]), (.aload_n 0, 0, [0]), (.getfield 69, 18, [16, 23, 81, 1]), (.iload 9, 0, [9]), (.iconst 1, 1, []), (.isub, 0, []), (.iaload, 0, []), (.iastore, 0, []), (.iinc 9 (-1), -1, [9]), (.goto (-24), 0, [230])]
def s265_257 : List E := [(.aload_n 0, 0, [0]), (.getfield 69, 18, [16, 23, 81, 1]), (.iconst 0, 0, []), (.iload 8, 0, [8]), (.iastore, 0, []), (.aload_n 1, 0, [1]), (.iload 6, 0, [6]), (.iload 8, 0, [8]), (.iastore, 0, []), (.iinc 6 1, 1, [6]), (.goto (-69), 0, [205])]
def s265_277 : List E := [(.return_, 0, [])]
def cd265 : List (Nat × List E) := [(0, s265_0), (11, s265_11), (18, s265_18), (34, s265_34), (78, s265_78), (87, s265_87), (98, s265_98), (127, s265_127), (130, s265_130), (158, s265_158), (161, s265_161), (175, s265_175), (176, s265_176), (179, s265_179), (202, s265_202), (205, s265_205), (230, s265_230), (257, s265_257), (277, s265_277)]
theorem l265_0 : lkc cd265 0 = s265_0 := rfl
theorem l265_11 : lkc cd265 11 = s265_11 := rfl
theorem l265_18 : lkc cd265 18 = s265_18 := rfl
theorem l265_34 : lkc cd265 34 = s265_34 := rfl
theorem l265_78 : lkc cd265 78 = s265_78 := rfl
theorem l265_87 : lkc cd265 87 = s265_87 := rfl
theorem l265_98 : lkc cd265 98 = s265_98 := rfl
theorem l265_127 : lkc cd265 127 = s265_127 := rfl
theorem l265_130 : lkc cd265 130 = s265_130 := rfl
theorem l265_158 : lkc cd265 158 = s265_158 := rfl
theorem l265_161 : lkc cd265 161 = s265_161 := rfl
theorem l265_175 : lkc cd265 175 = s265_175 := rfl
theorem l265_176 : lkc cd265 176 = s265_176 := rfl
theorem l265_179 : lkc cd265 179 = s265_179 := rfl
theorem l265_202 : lkc cd265 202 = s265_202 := rfl
theorem l265_205 : lkc cd265 205 = s265_205 := rfl
theorem l265_230 : lkc cd265 230 = s265_230 := rfl
theorem l265_257 : lkc cd265 257 = s265_257 := rfl
theorem l265_277 : lkc cd265 277 = s265_277 := rfl
theorem k265 : chkM 265 16 true cd265 = true := by decide +kernel
/- FontHouseModel.commands(I)V -/
def s266_0 : List E := [(.aload_n 0, 0, [0]), (.getfield 424, 0, [16, 8, 0]), (.iload_n 1, 0, [1]), (.iadd, 0, []), (.istore_n 2, 0, [2]), (.nop, 0, [7])]
def s266_7 : List E := [(.aload_n 0, 0, [0]), (.getfield 424, 0, [16, 8, 0]), (.iload_n 2, 0, [2]), (.if_icmp .ge 212, 0, [224]), (.aload_n 0, 0, [0]), (.getfield 343, 0, [16, 2, 0]), (.ifCond .ne 205, 0, [224]), (.aload_n 0, 0, [0]), (.iconst 1, 1, []), (.invokevirtual 452, 0, [267, 16, 33, 60, 0, 100, 0]), (.aload_n 0, 0, [0]), (.sipush 256, 256, []), (.aload_n 0, 0, [0]), (.getfield 51, 12, [16, 17, 81, 1]), (.iconst 1, 1, []), (.iaload, 0, []), (.iadd, 0, []), (.invokevirtual 396, 0, [261, 16, 33, 105, 0, 0, 0]), (.istore_n 3, 0, [3]), (.aload_n 0, 0, [0]), (.getfield 343, 0, [16, 2, 0]), (.ifCond .le 4, 0, [50]), (.return_, 0, [])]
def s266_50 : List E := [(.aload_n 0, 0, [0]), (.getfield 28, 5, [16, 9, 81, 1]), (.iconst 1, 1, []), (.dup2, 0, []), (.iaload, 0, []), (.iconst 1, 1, []), (.iadd, 0, []), (.iastore, 0, []), (.bipush 8, 8, []), (.iload_n 3, 0, [3]), (.bipush 64, 64, []), (.idiv, 0, []), (.invokestatic 468, 0, [268, 156, 0, 0, 0]), (.imul, 0, []), (.iload_n 3, 0, [3]), (.bipush 8, 8, []), (.idiv, 0, []), (.bipush 8, 8, []), (.irem, 0, []), (.iadd, 0, []), (.istore 4, 0, [4]), (.bipush 8, 8, []), (.iload_n 3, 0, [3]), (.bipush 64, 64, []), (.idiv, 0, []), (.invokestatic 471, 0, [269, 156, 0, 0, 0]), (.imul, 0, []), (.iload_n 3, 0, [3]), (.bipush 8, 8, []), (.irem, 0, []), (.iadd, 0, []), (.istore 5, 0, [5]), (.iload 4, 0, [4]), (.invokestatic 474, 0, [270, 155, 0, 0, 0]), (.aload_n 0, 0, [0]), (.iload 4, 0, [4]), (.invokestatic 477, 0, [271, 156, 0, 0, 0]), (.invokevirtual 365, 0, [244, 16, 33, 110, 0, 0, 0]), (.iadd, 0, []), (.istore 6, 0, [6]), (.iload 5, 0, [5]), (.invokestatic 480, 0, [272, 155, 0, 0, 0]), (.aload_n 0, 0, [0]), (.iload 5, 0, [5]), (.invokestatic 483, 0, [273, 156, 0, 0, 0]), (.invokevirtual 365, 0, [244, 16, 33, 110, 0, 0, 0]), (.iadd, 0, []), (.istore 7, 0, [7]), (.aload_n 0, 0, [0]), (.getfield 343, 0, [16, 2, 0]), (.ifCond .ne 25, 0, [160]), (.iload 6, 0, [6]), (.iload_n 2, 0, [2]), (.aload_n 0, 0, [0]), (.getfield 424, 0, [16, 8, 0]), (.isub, 0, []), (.if_icmp .le 14, 0, [160]), (.aload_n 0, 0, [0]), (.bipush 11, 11, []), (.aload_n 0, 0, [0]), (.getfield 351, 0, [16, 6, 0]), (.invokevirtual 357, 0, [243, 16, 33, 154, 0, 3, 0, 0]), (.pop, 0, []), (.nop, 0, [160])]
def s266_160 : List E := [(.iconst 0, 0, []), (.istore 8, 0, [8]), (.nop, 0, [163])]
def s266_163 : List E := [(.iload 8, 0, [8]), (.iload 6, 0, [6]), (.if_icmp .ge 20, 0, [187]), (.aload_n 0, 0, [0]), (.getfield 343, 0, [16, 2, 0]), (.ifCond .ne 13, 0, [187]), (.aload_n 0, 0, [0]), (.invokevirtual 486, 0, [274, 16, 33, 38, 0, 100]), (.iinc 8 1, 1, [8]), (.goto (-21), 0, [163])]
def s266_187 : List E := [(.aload_n 0, 0, [0]), (.getfield 343, 0, [16, 2, 0]), (.ifCond .ne 30, 0, [221]), (.aload_n 0, 0, [0]), (.getfield 424, 0, [16, 8, 0]), (.iload_n 2, 0, [2]), (.if_icmp .ge 22, 0, [221]), (.aload_n 0, 0, [0]), (.iload_n 3, 0, [3]), (.sipush 128, 128, []), (.if_icmp .ge 7, 0, [214]), (.iconst 1, 1, []), (.goto 4, 0, [215])]
def s266_214 : List E := [(.iconst 0, 0, []), (.nop, 0, [215])]
def s266_215 : List E := [(.iload 7, 0, [7]), (.iload_n 2, 0, [2]), (.invokevirtual 489, 0, [281, 16, 33, 8, 0, 100, 0, 0, 3]), (.nop, 0, [221])]
def s266_221 : List E := [(.goto (-214), 0, [7])]
def s266_224 : List E := [(.return_, 0, [])]
def cd266 : List (Nat × List E) := [(0, s266_0), (7, s266_7), (50, s266_50), (160, s266_160), (163, s266_163), (187, s266_187), (214, s266_214), (215, s266_215), (221, s266_221), (224, s266_224)]
theorem l266_0 : lkc cd266 0 = s266_0 := rfl
theorem l266_7 : lkc cd266 7 = s266_7 := rfl
theorem l266_50 : lkc cd266 50 = s266_50 := rfl
theorem l266_160 : lkc cd266 160 = s266_160 := rfl
theorem l266_163 : lkc cd266 163 = s266_163 := rfl
theorem l266_187 : lkc cd266 187 = s266_187 := rfl
theorem l266_214 : lkc cd266 214 = s266_214 := rfl
theorem l266_215 : lkc cd266 215 = s266_215 := rfl
theorem l266_221 : lkc cd266 221 = s266_221 := rfl
theorem l266_224 : lkc cd266 224 = s266_224 := rfl
theorem k266 : chkM 266 16 true cd266 = true := by decide +kernel
