set_option maxRecDepth 100000
/- Glyph.isTight()Z -/
def s176_0 : List E := [(.iconst 1, 1, []), (.istore_n 1, 0, [1]), (.iconst 0, 0, []), (.istore_n 2, 0, [2]), (.nop, 0, [4])]
def s176_4 : List E := [(.iload_n 2, 0, [2]), (.iconst 4, 4, []), (.if_icmp .ge 31, 0, [37]), (.iload_n 1, 0, [1]), (.aload_n 0, 0, [0]), (.getfield 9, 1, [11, 1, 81, 1]), (.iload_n 2, 0, [2]), (.iaload, 0, []), (.aload_n 0, 0, [0]), (.iload_n 2, 0, [2]), (.invokevirtual 84, 0, [170, 11, 23, 8, 0, 0, 0]), (.if_icmp .ne 7, 0, [28]), (.iconst 1, 1, []), (.goto 4, 0, [29])]
def s176_28 : List E := [(.iconst 0, 0, []), (.nop, 0, [29])]
def s176_29 : List E := [(.iand, 0, []), (.istore_n 1, 0, [1]), (.iinc 2 1, 1, [2]), (.goto (-30), 0, [4])]
def s176_37 : List E := [(.iload_n 1, 0, [1]), (.ireturn, 0, [1])]
def cd176 : List (Nat × List E) := [(0, s176_0), (4, s176_4), (28, s176_28), (29, s176_29), (37, s176_37)]
theorem l176_0 : lkc cd176 0 = s176_0 := rfl
theorem l176_4 : lkc cd176 4 = s176_4 := rfl
theorem l176_28 : lkc cd176 28 = s176_28 := rfl
theorem l176_29 : lkc cd176 29 = s176_29 := rfl
theorem l176_37 : lkc cd176 37 = s176_37 := rfl
theorem k176 : chkM 176 11 true cd176 = true := by decide +kernel
/- Turner.<init>()V -/
def s177_0 : List E := [(.aload_n 0, 0, [0]), (.invokespecial 3, 0, [49]), (.aload_n 0, 0, [0]), (.bipush 7, 7, []), (.anewarray 9, 0, [45, 91]), (.putfield 11, 0, [12, 0, 51]), (.aload_n 0, 0, [0]), (.bipush 7, 7, []), (.newarray .int, 0, [40, 81]), (.putfield 17, 0, [12, 1, 46]), (.aload_n 0, 0, [0]), (.new 9, 0, [1, 3, 4]), (.dup, 0, []), (.sipush 512, 512, []), (.invokespecial 21, 0, [111, 1, 3, 28, 0, 100, 0]), (.putfield 24, 0, [12, 2, 7]), (.aload_n 0, 0, [0]), (.bipush 64, 64, []), (.newarray .int, 0, [40, 81]), (.putfield 28, 0, [12, 3, 46]), (.aload_n 0, 0, [0]), (.new 31, 0, [11, 23, 20]), (.dup, 0, []), (.invokespecial 33, 0, [155, 11, 23, 8, 0, 100]), (.putfield 34, 0, [12, 4, 17]), (.iconst 0, 0, []), (.istore_n 1, 0, [1]), (.nop, 0, [56])]
def s177_56 : List E := [(.iload_n 1, 0, [1]), (.bipush 7, 7, []), (.if_icmp .ge 25, 0, [84]), (.aload_n 0, 0, [0]), (.getfield 11, 0, [12, 0, 51]), (.iload_n 1, 0, [1]), (.new 9, 0, [1, 3, 4]), (.dup, 0, []), (.sipush 16000, 16000, []), (.invokespecial 21, 0, [111, 1, 3, 28, 0, 100, 0]), (.aastore, 0, [45, 1]), (.iinc 1 1, 1, [1]), (.goto (-25), 0, [56])]
def s177_84 : List E := [(.return_, 0, [])]
def cd177 : List (Nat × List E) := [(0, s177_0), (56, s177_56), (84, s177_84)]
theorem l177_0 : lkc cd177 0 = s177_0 := rfl
theorem l177_56 : lkc cd177 56 = s177_56 := rfl
theorem l177_84 : lkc cd177 84 = s177_84 := rfl
theorem k177 : chkM 177 12 false cd177 = true := by decide +kernel
/- Turner.putNumber(LFontHouse$Bytes;II)V -/
def s178_0 : List E := [(.iload_n 2, 0, [2]), (.ifCond .ne 13, 0, [14]), (.aload_n 0, 0, [0]), (.iload_n 1, 0, [1]), (.iconst 2, 2, []), (.idiv, 0, []), (.invokevirtual 70, 0, [121, 1, 3, 29, 0, 100, 0]), (.goto 8, 0, [19])]
def s178_14 : List E := [(.aload_n 0, 0, [0]), (.iload_n 1, 0, [1]), (.invokevirtual 76, 0, [120, 1, 3, 8, 0, 100, 0]), (.nop, 0, [19])]
def s178_19 : List E := [(.return_, 0, [])]
def cd178 : List (Nat × List E) := [(0, s178_0), (14, s178_14), (19, s178_19)]
theorem l178_0 : lkc cd178 0 = s178_0 := rfl
theorem l178_14 : lkc cd178 14 = s178_14 := rfl
theorem l178_19 : lkc cd178 19 = s178_19 := rfl
theorem k178 : chkM 178 12 true cd178 = true := by decide +kernel
/- Turner.turn(LFontHouse$View;LFontHouse$Bytes;)V -/
def s179_0 : List E := [(.iconst 0, 0, []), (.istore_n 3, 0, [3]), (.nop, 0, [2])]
def s179_2 : List E := [(.iload_n 3, 0, [3]), (.bipush 7, 7, []), (.if_icmp .ge 18, 0, [23]), (.aload_n 0, 0, [0]), (.getfield 11, 1, [12, 0, 91, 1]), (.iload_n 3, 0, [3]), (.aaload, 0, [45, 2]), (.invokevirtual 38, 0, [112, 1, 3, 160, 0, 100]), (.iinc 3 1, 1, [3]), (.goto (-18), 0, [2])]
def s179_23 : List E := [(.aload_n 0, 0, [0]), (.getfield 24, 3, [12, 2, 3, 1]), (.invokevirtual 38, 0, [112, 1, 3, 160, 0, 100]), (.aload_n 1, 0, [1]), (.getfield 41, 0, [10, 0, 0]), (.bipush 31, 31, []), (.iadd, 0, []), (.bipush 32, 32, []), (.idiv, 0, []), (.iconst 4, 4, []), (.imul, 0, []), (.istore_n 3, 0, [3]), (.iconst 0, 0, []), (.istore 4, 0, [4]), (.nop, 0, [46])]
def s179_46 : List E := [(.iload 4, 0, [4]), (.iload_n 3, 0, [3]), (.if_icmp .ge 19, 0, [68]), (.aload_n 0, 0, [0]), (.getfield 11, 1, [12, 0, 91, 1]), (.iconst 5, 5, []), (.aaload, 0, [45, 2]), (.iconst 0, 0, []), (.invokevirtual 47, 0, [113, 1, 3, 159, 0, 100, 0]), (.iinc 4 1, 1, [4]), (.goto (-19), 0, [46])]
def s179_68 : List E := [(.iconst 0, 0, []), (.istore 4, 0, [4]), (.iconst 0, 0, []), (.istore 5, 0, [5]), (.nop, 0, [74])]
def s179_74 : List E := [(.iload 5, 0, [5]), (.aload_n 1, 0, [1]), (.getfield 41, 0, [10, 0, 0]), (.if_icmp .ge 60, 0, [140]), (.aload_n 1, 0, [1]), (.iload 5, 0, [5]), (.invokevirtual 50, 0, [150, 10, 21, 8, 0, 3, 0]), (.pop, 0, []), (.aload_n 0, 0, [0]), (.aload_n 1, 0, [1]), (.getfield 54, 1, [10, 10, 23, 1]), (.iload 5, 0, [5]), (.invokevirtual 55, 0, [180, 12, 25, 63, 0, 100, 0, 17]), (.aload_n 0, 0, [0]), (.getfield 28, 5, [12, 3, 81, 1]), (.iload 5, 0, [5]), (.aload_n 1, 0, [1]), (.getfield 54, 1, [10, 10, 23, 1]), (.getfield 59, 0, [11, 8, 3]), (.ifCond .eq 7, 0, [120]), (.iconst 1, 1, []), (.goto 4, 0, [121])]
def s179_120 : List E := [(.iconst 0, 0, []), (.nop, 0, [121])]
def s179_121 : List E := [(.iastore, 0, []), (.iload 4, 0, [4]), (.aload_n 1, 0, [1]), (.getfield 54, 1, [10, 10, 23, 1]), (.getfield 59, 0, [11, 8, 3]), (.ior, 0, []), (.istore 4, 0, [4]), (.iinc 5 1, 1, [5]), (.goto (-63), 0, [74])]
def s179_140 : List E := [(.aload_n 0, 0, [0]), (.getfield 11, 1, [12, 0, 91, 1]), (.iconst 5, 5, []), (.aaload, 0, [45, 2]), (.aload_n 0, 0, [0]), (.getfield 24, 3, [12, 2, 3, 1]), (.iconst 0, 0, []), (.aload_n 0, 0, [0]), (.getfield 24, 3, [12, 2, 3, 1]), (.getfield 63, 0, [1, 1, 0]), (.invokevirtual 66, 0, [115, 1, 3, 97, 0, 100, 0, 0, 7]), (.aload_n 2, 0, [2]), (.iconst 0, 0, []), (.invokevirtual 70, 0, [121, 1, 3, 138, 0, 100, 0]), (.aload_n 2, 0, [2]), (.iload 4, 0, [4]), (.ifCond .eq 7, 0, [176]), (.iconst 1, 1, []), (.goto 4, 0, [177])]
def s179_176 : List E := [(.iconst 0, 0, []), (.nop, 0, [177])]
def s179_177 : List E := [(.invokevirtual 70, 0, [121, 1, 3, 138, 0, 100, 0]), (.aload_n 2, 0, [2]), (.aload_n 1, 0, [1]), (.getfield 41, 0, [10, 0, 0]), (.invokevirtual 70, 0, [121, 1, 3, 138, 0, 100, 0]), (.aload_n 2, 0, [2]), (.aload_n 1, 0, [1]), (.getfield 73, 0, [10, 2, 0]), (.invokevirtual 70, 0, [121, 1, 3, 138, 0, 100, 0]), (.iconst 0, 0, []), (.istore 5, 0, [5]), (.nop, 0, [199])]
def s179_199 : List E := [(.iload 5, 0, [5]), (.bipush 7, 7, []), (.if_icmp .ge 23, 0, [226]), (.aload_n 2, 0, [2]), (.aload_n 0, 0, [0]), (.getfield 11, 1, [12, 0, 91, 1]), (.iload 5, 0, [5]), (.aaload, 0, [45, 2]), (.getfield 63, 0, [1, 1, 0]), (.invokevirtual 76, 0, [120, 1, 3, 117, 0, 100, 0]), (.iinc 5 1, 1, [5]), (.goto (-24), 0, [199])]
def s179_226 : List E := [(.iconst 0, 0, []), (.istore 5, 0, [5]), (.nop, 0, [229])]
def s179_229 : List E := [(.iload 5, 0, [5]), (.bipush 7, 7, []), (.if_icmp .ge 50, 0, [283]), (.aload_n 2, 0, [2]), (.dup, 0, []), (.getfield 79, 0, [1, 2, 3]), (.aload_n 0, 0, [0]), (.getfield 11, 1, [12, 0, 91, 1]), (.iload 5, 0, [5]), (.aaload, 0, [45, 2]), (.getfield 79, 0, [1, 2, 3]), (.ior, 0, []), (.putfield 79, 0, [1, 2, 3]), (.aload_n 2, 0, [2]), (.aload_n 0, 0, [0]), (.getfield 11, 1, [12, 0, 91, 1]), (.iload 5, 0, [5]), (.aaload, 0, [45, 2]), (.iconst 0, 0, []), (.aload_n 0, 0, [0]), (.getfield 11, 1, [12, 0, 91, 1]), (.iload 5, 0, [5]), (.aaload, 0, [45, 2]), (.getfield 63, 0, [1, 1, 0]), (.invokevirtual 66, 0, [115, 1, 3, 97, 0, 100, 0, 0, 7]), (.iinc 5 1, 1, [5]), (.goto (-51), 0, [229])]
def s179_283 : List E := [(.iconst 0, 0, []), (.istore 5, 0, [5]), (.nop, 0, [286])]
def s179_286 : List E := [(.iload 4, 0, [4]), (.ifCond .eq 88, 0, [376]), (.iload 5, 0, [5]), (.aload_n 1, 0, [1]), (.getfield 41, 0, [10, 0, 0]), (.bipush 7, 7, []), (.iadd, 0, []), (.bipush 8, 8, []), (.idiv, 0, []), (.if_icmp .ge 73, 0, [376]), (.iconst 0, 0, []), (.istore 6, 0, [6]), (.iconst 0, 0, []), (.istore 7, 0, [7]), (.nop, 0, [312])]
def s179_312 : List E := [(.iload 7, 0, [7]), (.bipush 8, 8, []), (.if_icmp .ge 48, 0, [364]), (.bipush 8, 8, []), (.iload 5, 0, [5]), (.imul, 0, []), (.iload 7, 0, [7]), (.iadd, 0, []), (.aload_n 1, 0, [1]), (.getfield 41, 0, [10, 0, 0]), (.if_icmp .ge 33, 0, [364]), (.iload 6, 0, [6]), (.aload_n 0, 0, [0]), (.getfield 28, 5, [12, 3, 81, 1]), (.bipush 8, 8, []), (.iload 5, 0, [5]), (.imul, 0, []), (.iload 7, 0, [7]), (.iadd, 0, []), (.iaload, 0, []), (.bipush 7, 7, []), (.iload 7, 0, [7]), (.isub, 0, []), (.ishl, 0, []), (.ior, 0, []), (.istore 6, 0, [6]), (.iinc 7 1, 1, [7]), (.goto (-49), 0, [312])]
def s179_364 : List E := [(.aload_n 2, 0, [2]), (.iload 6, 0, [6]), (.invokevirtual 47, 0, [113, 1, 3, 159, 0, 100, 0]), (.iinc 5 1, 1, [5]), (.goto (-87), 0, [286])]
def s179_376 : List E := [(.return_, 0, [])]
def cd179 : List (Nat × List E) := [(0, s179_0), (2, s179_2), (23, s179_23), (46, s179_46), (68, s179_68), (74, s179_74), (120, s179_120), (121, s179_121), (140, s179_140), (176, s179_176), (177, s179_177), (199, s179_199), (226, s179_226), (229, s179_229), (283, s179_283), (286, s179_286), (312, s179_312), (364, s179_364), (376, s179_376)]
theorem l179_0 : lkc cd179 0 = s179_0 := rfl
theorem l179_2 : lkc cd179 2 = s179_2 := rfl
theorem l179_23 : lkc cd179 23 = s179_23 := rfl
theorem l179_46 : lkc cd179 46 = s179_46 := rfl
theorem l179_68 : lkc cd179 68 = s179_68 := rfl
theorem l179_74 : lkc cd179 74 = s179_74 := rfl
theorem l179_120 : lkc cd179 120 = s179_120 := rfl
theorem l179_121 : lkc cd179 121 = s179_121 := rfl
theorem l179_140 : lkc cd179 140 = s179_140 := rfl
theorem l179_176 : lkc cd179 176 = s179_176 := rfl
theorem l179_177 : lkc cd179 177 = s179_177 := rfl
theorem l179_199 : lkc cd179 199 = s179_199 := rfl
theorem l179_226 : lkc cd179 226 = s179_226 := rfl
theorem l179_229 : lkc cd179 229 = s179_229 := rfl
theorem l179_283 : lkc cd179 283 = s179_283 := rfl
theorem l179_286 : lkc cd179 286 = s179_286 := rfl
theorem l179_312 : lkc cd179 312 = s179_312 := rfl
theorem l179_364 : lkc cd179 364 = s179_364 := rfl
theorem l179_376 : lkc cd179 376 = s179_376 := rfl
theorem k179 : chkM 179 12 true cd179 = true := by decide +kernel
/- Turner.turn(LFontHouse$Glyph;I)V -/
def s180_0 : List E := [(.aload_n 0, 0, [0]), (.getfield 11, 1, [12, 0, 91, 1]), (.iconst 0, 0, []), (.aaload, 0, [45, 2]), (.aload_n 1, 0, [1]), (.getfield 82, 0, [11, 0, 0]), (.invokevirtual 70, 0, [121, 1, 3, 60, 0, 100, 0]), (.aload_n 1, 0, [1]), (.getfield 82, 0, [11, 0, 0]), (.ifCond .ne 4, 0, [21]), (.return_, 0, [])]
def s180_21 : List E := [(.aload_n 1, 0, [1]), (.getfield 82, 0, [11, 0, 0]), (.ifCond .lt 10, 0, [35]), (.aload_n 1, 0, [1]), (.invokevirtual 85, 0, [176, 11, 23, 35, 0, 3]), (.ifCond .ne 56, 0, [88]), (.nop, 0, [35])]
def s180_35 : List E := [(.aload_n 0, 0, [0]), (.getfield 11, 1, [12, 0, 91, 1]), (.iconst 5, 5, []), (.aaload, 0, [45, 2]), (.getfield 89, 1, [1, 0, 83, 1]), (.iload_n 2, 0, [2]), (.bipush 8, 8, []), (.idiv, 0, []), (.dup2, 0, []), (.baload, 0, [41]), (.sipush 128, 128, []), (.iload_n 2, 0, [2]), (.bipush 8, 8, []), (.irem, 0, []), (.ishr, 0, []), (.i2b, 0, []), (.ior, 0, []), (.i2b, 0, []), (.bastore, 0, [41]), (.iconst 0, 0, []), (.istore_n 3, 0, [3]), (.nop, 0, [64])]
def s180_64 : List E := [(.iload_n 3, 0, [3]), (.iconst 4, 4, []), (.if_icmp .ge 22, 0, [88]), (.aload_n 0, 0, [0]), (.getfield 24, 3, [12, 2, 3, 1]), (.aload_n 1, 0, [1]), (.getfield 93, 1, [11, 1, 81, 1]), (.iload_n 3, 0, [3]), (.iaload, 0, []), (.invokevirtual 70, 0, [121, 1, 3, 60, 0, 100, 0]), (.iinc 3 1, 1, [3]), (.goto (-21), 0, [64])]
def s180_88 : List E := [(.aload_n 1, 0, [1]), (.getfield 82, 0, [11, 0, 0]), (.ifCond .ge 27, 0, [119]), (.aload_n 0, 0, [0]), (.getfield 11, 1, [12, 0, 91, 1]), (.iconst 4, 4, []), (.aaload, 0, [45, 2]), (.aload_n 1, 0, [1]), (.getfield 96, 11, [11, 14, 3, 1]), (.iconst 0, 0, []), (.aload_n 1, 0, [1]), (.getfield 96, 11, [11, 14, 3, 1]), (.getfield 63, 0, [1, 1, 0]), (.invokevirtual 66, 0, [115, 1, 3, 19, 0, 100, 0, 0, 7]), (.goto 8, 0, [124])]
def s180_119 : List E := [(.aload_n 0, 0, [0]), (.aload_n 1, 0, [1]), (.invokevirtual 99, 0, [181, 12, 25, 8, 0, 100, 17]), (.nop, 0, [124])]
def s180_124 : List E := [(.aload_n 1, 0, [1]), (.getfield 82, 0, [11, 0, 0]), (.ifCond .ge 11, 0, [139]), (.aload_n 1, 0, [1]), (.invokevirtual 103, 0, [164, 11, 23, 80, 0, 3]), (.ifCond .ne 4, 0, [139]), (.return_, 0, [])]
def s180_139 : List E := [(.aload_n 0, 0, [0]), (.getfield 11, 1, [12, 0, 91, 1]), (.iconst 3, 3, []), (.aaload, 0, [45, 2]), (.aload_n 1, 0, [1]), (.getfield 106, 13, [11, 15, 3, 1]), (.getfield 63, 0, [1, 1, 0]), (.invokevirtual 109, 0, [127, 1, 3, 39, 0, 100, 0]), (.aload_n 0, 0, [0]), (.getfield 11, 1, [12, 0, 91, 1]), (.bipush 6, 6, []), (.aaload, 0, [45, 2]), (.aload_n 1, 0, [1]), (.getfield 106, 13, [11, 15, 3, 1]), (.iconst 0, 0, []), (.aload_n 1, 0, [1]), (.getfield 106, 13, [11, 15, 3, 1]), (.getfield 63, 0, [1, 1, 0]), (.invokevirtual 66, 0, [115, 1, 3, 19, 0, 100, 0, 0, 7]), (.return_, 0, [])]
def cd180 : List (Nat × List E) := [(0, s180_0), (21, s180_21), (35, s180_35), (64, s180_64), (88, s180_88), (119, s180_119), (124, s180_124), (139, s180_139)]
theorem l180_0 : lkc cd180 0 = s180_0 := rfl
theorem l180_21 : lkc cd180 21 = s180_21 := rfl
theorem l180_35 : lkc cd180 35 = s180_35 := rfl
theorem l180_64 : lkc cd180 64 = s180_64 := rfl
theorem l180_88 : lkc cd180 88 = s180_88 := rfl
theorem l180_119 : lkc cd180 119 = s180_119 := rfl
theorem l180_124 : lkc cd180 124 = s180_124 := rfl
theorem l180_139 : lkc cd180 139 = s180_139 := rfl
theorem k180 : chkM 180 12 true cd180 = true := by decide +kernel
/- Turner.turnPoints(LFontHouse$Glyph;)V -/
def s181_0 : List E := [(.iconst 0, 0, []), (.istore_n 2, 0, [2]), (.iconst 0, 0, []), (.istore_n 3, 0, [3]), (.nop, 0, [4])]
def s181_4 : List E := [(.iload_n 3, 0, [3]), (.aload_n 1, 0, [1]), (.getfield 82, 0, [11, 0, 0]), (.if_icmp .ge 37, 0, [46]), (.aload_n 0, 0, [0]), (.getfield 11, 1, [12, 0, 91, 1]), (.iconst 1, 1, []), (.aaload, 0, [45, 2]), (.aload_n 1, 0, [1]), (.getfield 112, 5, [11, 7, 81, 1]), (.iload_n 3, 0, [3]), (.iaload, 0, []), (.iconst 1, 1, []), (.iadd, 0, []), (.iload_n 2, 0, [2]), (.isub, 0, []), (.invokevirtual 109, 0, [127, 1, 3, 16, 0, 100, 0]), (.aload_n 1, 0, [1]), (.getfield 112, 5, [11, 7, 81, 1]), (.iload_n 3, 0, [3]), (.iaload, 0, []), (.iconst 1, 1, []), (.iadd, 0, []), (.istore_n 2, 0, [2]), (.iinc 3 1, 1, [3]), (.goto (-39), 0, [4])]
def s181_46 : List E := [(.iconst 0, 0, []), (.istore_n 3, 0, [3]), (.nop, 0, [48])]
def s181_48 : List E := [(.iload_n 3, 0, [3]), (.aload_n 1, 0, [1]), (.getfield 115, 0, [11, 3, 0]), (.if_icmp .ge 47, 0, [100]), (.aload_n 0, 0, [0]), (.aload_n 1, 0, [1]), (.aload_n 1, 0, [1]), (.getfield 118, 2, [11, 4, 81, 1]), (.iload_n 3, 0, [3]), (.invokevirtual 121, 0, [173, 11, 23, 57, 0, 0, 0, 46]), (.aload_n 1, 0, [1]), (.aload_n 1, 0, [1]), (.getfield 125, 3, [11, 5, 81, 1]), (.iload_n 3, 0, [3]), (.invokevirtual 121, 0, [173, 11, 23, 57, 0, 0, 0, 46]), (.aload_n 1, 0, [1]), (.getfield 128, 4, [11, 6, 89, 1]), (.iload_n 3, 0, [3]), (.baload, 0, [44]), (.ifCond .eq 7, 0, [88]), (.iconst 0, 0, []), (.goto 6, 0, [91])]
def s181_88 : List E := [(.sipush 128, 128, []), (.nop, 0, [91])]
def s181_91 : List E := [(.invokevirtual 132, 0, [182, 12, 25, 8, 0, 100, 0, 0, 0]), (.iinc 3 1, 1, [3]), (.goto (-49), 0, [48])]
def s181_100 : List E := [(.return_, 0, [])]
def cd181 : List (Nat × List E) := [(0, s181_0), (4, s181_4), (46, s181_46), (48, s181_48), (88, s181_88), (91, s181_91), (100, s181_100)]
theorem l181_0 : lkc cd181 0 = s181_0 := rfl
theorem l181_4 : lkc cd181 4 = s181_4 := rfl
theorem l181_46 : lkc cd181 46 = s181_46 := rfl
theorem l181_48 : lkc cd181 48 = s181_48 := rfl
theorem l181_88 : lkc cd181 88 = s181_88 := rfl
theorem l181_91 : lkc cd181 91 = s181_91 := rfl
theorem l181_100 : lkc cd181 100 = s181_100 := rfl
theorem k181 : chkM 181 12 true cd181 = true := by decide +kernel
/- Turner.turnStep(III)V -/
def s182_0 : List E := [(.aload_n 0, 0, [0]), (.getfield 11, 1, [12, 0, 91, 1]), (.iconst 3, 3, []), (.aaload, 0, [45, 2]), (.astore 4, 0, [4]), (.iload_n 1, 0, [1]), (.invokestatic 136, 0, [4, 30, 0, 0, 0]), (.istore 5, 0, [5]), (.iload_n 2, 0, [2]), (.invokestatic 136, 0, [4, 30, 0, 0, 0]), (.istore 6, 0, [6]), (.iload_n 1, 0, [1]), (.ifCond .ge 7, 0, [28]), (.iconst 0, 0, []), (.goto 4, 0, [29])]
def s182_28 : List E := [(.iconst 1, 1, []), (.nop, 0, [29])]
def s182_29 : List E := [(.istore 7, 0, [7]), (.iload_n 2, 0, [2]), (.ifCond .ge 7, 0, [39]), (.iconst 0, 0, []), (.goto 4, 0, [40])]
def s182_39 : List E := [(.iconst 1, 1, []), (.nop, 0, [40])]
def s182_40 : List E := [(.istore 8, 0, [8]), (.iload 5, 0, [5]), (.ifCond .ne 34, 0, [78]), (.iload 6, 0, [6]), (.sipush 1280, 1280, []), (.if_icmp .ge 26, 0, [78]), (.iload 6, 0, [6]), (.sipush 256, 256, []), (.idiv, 0, []), (.iconst 2, 2, []), (.imul, 0, []), (.iload 8, 0, [8]), (.iadd, 0, []), (.istore 9, 0, [9]), (.aload 4, 0, [4]), (.iload 6, 0, [6]), (.invokevirtual 47, 0, [113, 1, 3, 29, 0, 100, 0]), (.goto 281, 0, [356])]
def s182_78 : List E := [(.iload 6, 0, [6]), (.ifCond .ne 37, 0, [117]), (.iload 5, 0, [5]), (.sipush 1280, 1280, []), (.if_icmp .ge 29, 0, [117]), (.bipush 10, 10, []), (.iload 5, 0, [5]), (.sipush 256, 256, []), (.idiv, 0, []), (.iconst 2, 2, []), (.imul, 0, []), (.iadd, 0, []), (.iload 7, 0, [7]), (.iadd, 0, []), (.istore 9, 0, [9]), (.aload 4, 0, [4]), (.iload 5, 0, [5]), (.invokevirtual 47, 0, [113, 1, 3, 29, 0, 100, 0]), (.goto 242, 0, [356])]
def s182_117 : List E := [(.iload 5, 0, [5]), (.bipush 65, 65, []), (.if_icmp .ge 69, 0, [190]), (.iload 6, 0, [6]), (.bipush 65, 65, []), (.if_icmp .ge 62, 0, [190]), (.bipush 20, 20, []), (.iload 5, 0, [5]), (.iconst 1, 1, []), (.isub, 0, []), (.bipush 16, 16, []), (.idiv, 0, []), (.bipush 16, 16, []), (.imul, 0, []), (.iadd, 0, []), (.iload 6, 0, [6]), (.iconst 1, 1, []), (.isub, 0, []), (.bipush 16, 16, []), (.idiv, 0, []), (.iconst 4, 4, []), (.imul, 0, []), (.iadd, 0, []), (.iload 7, 0, [7]), (.iadd, 0, []), (.iconst 2, 2, []), (.iload 8, 0, [8]), (.imul, 0, []), (.iadd, 0, []), (.istore 9, 0, [9]), (.aload 4, 0, [4]), (.iload 5, 0, [5]), (.iconst 1, 1, []), (.isub, 0, []), (.bipush 16, 16, []), (.irem, 0, []), (.bipush 16, 16, []), (.imul, 0, []), (.iload 6, 0, [6]), (.iconst 1, 1, []), (.isub, 0, []), (.bipush 16, 16, []), (.irem, 0, []), (.iadd, 0, []), (.invokevirtual 47, 0, [113, 1, 3, 29, 0, 100, 0]), (.goto 169, 0, [356])]
def s182_190 : List E := [(.iload 5, 0, [5]), (.sipush 769, 769, []), (.if_icmp .ge 67, 0, [262]), (.iload 6, 0, [6]), (.sipush 769, 769, []), (.if_icmp .ge 59, 0, [262]), (.bipush 84, 84, []), (.iload 5, 0, [5]), (.iconst 1, 1, []), (.isub, 0, []), (.sipush 256, 256, []), (.idiv, 0, []), (.bipush 12, 12, []), (.imul, 0, []), (.iadd, 0, []), (.iload 6, 0, [6]), (.iconst 1, 1, []), (.isub, 0, []), (.sipush 256, 256, []), (.idiv, 0, []), (.iconst 4, 4, []), (.imul, 0, []), (.iadd, 0, []), (.iload 7, 0, [7]), (.iadd, 0, []), (.iconst 2, 2, []), (.iload 8, 0, [8]), (.imul, 0, []), (.iadd, 0, []), (.istore 9, 0, [9]), (.aload 4, 0, [4]), (.iload 5, 0, [5]), (.iconst 1, 1, []), (.isub, 0, []), (.invokevirtual 47, 0, [113, 1, 3, 29, 0, 100, 0]), (.aload 4, 0, [4]), (.iload 6, 0, [6]), (.iconst 1, 1, []), (.isub, 0, []), (.invokevirtual 47, 0, [113, 1, 3, 29, 0, 100, 0]), (.goto 97, 0, [356])]
def s182_262 : List E := [(.iload 5, 0, [5]), (.sipush 4096, 4096, []), (.if_icmp .ge 63, 0, [330]), (.iload 6, 0, [6]), (.sipush 4096, 4096, []), (.if_icmp .ge 55, 0, [330]), (.bipush 120, 120, []), (.iload 7, 0, [7]), (.iadd, 0, []), (.iconst 2, 2, []), (.iload 8, 0, [8]), (.imul, 0, []), (.iadd, 0, []), (.istore 9, 0, [9]), (.aload 4, 0, [4]), (.iload 5, 0, [5]), (.bipush 16, 16, []), (.idiv, 0, []), (.invokevirtual 47, 0, [113, 1, 3, 29, 0, 100, 0]), (.aload 4, 0, [4]), (.iload 5, 0, [5]), (.bipush 16, 16, []), (.irem, 0, []), (.bipush 16, 16, []), (.imul, 0, []), (.iload 6, 0, [6]), (.sipush 256, 256, []), (.idiv, 0, []), (.iadd, 0, []), (.invokevirtual 47, 0, [113, 1, 3, 29, 0, 100, 0]), (.aload 4, 0, [4]), (.iload 6, 0, [6]), (.invokevirtual 47, 0, [113, 1, 3, 29, 0, 100, 0]), (.goto 29, 0, [356])]
def s182_330 : List E := [(.bipush 124, 124, []), (.iload 7, 0, [7]), (.iadd, 0, []), (.iconst 2, 2, []), (.iload 8, 0, [8]), (.imul, 0, []), (.iadd, 0, []), (.istore 9, 0, [9]), (.aload 4, 0, [4]), (.iload 5, 0, [5]), (.invokevirtual 70, 0, [121, 1, 3, 8, 0, 100, 0]), (.aload 4, 0, [4]), (.iload 6, 0, [6]), (.invokevirtual 70, 0, [121, 1, 3, 8, 0, 100, 0]), (.nop, 0, [356])]
def s182_356 : List E := [(.aload_n 0, 0, [0]), (.getfield 11, 1, [12, 0, 91, 1]), (.iconst 2, 2, []), (.aaload, 0, [45, 2]), (.iload 9, 0, [9]), (.iload_n 3, 0, [3]), (.ior, 0, []), (.invokevirtual 47, 0, [113, 1, 3, 29, 0, 100, 0]), (.return_, 0, [])]
def cd182 : List (Nat × List E) := [(0, s182_0), (28, s182_28), (29, s182_29), (39, s182_39), (40, s182_40), (78, s182_78), (117, s182_117), (190, s182_190), (262, s182_262), (330, s182_330), (356, s182_356)]
theorem l182_0 : lkc cd182 0 = s182_0 := rfl
theorem l182_28 : lkc cd182 28 = s182_28 := rfl
theorem l182_29 : lkc cd182 29 = s182_29 := rfl
theorem l182_39 : lkc cd182 39 = s182_39 := rfl
theorem l182_40 : lkc cd182 40 = s182_40 := rfl
theorem l182_78 : lkc cd182 78 = s182_78 := rfl
theorem l182_117 : lkc cd182 117 = s182_117 := rfl
theorem l182_190 : lkc cd182 190 = s182_190 := rfl
theorem l182_262 : lkc cd182 262 = s182_262 := rfl
theorem l182_330 : lkc cd182 330 = s182_330 := rfl
theorem l182_356 : lkc cd182 356 = s182_356 := rfl
theorem k182 : chkM 182 12 true cd182 = true := by decide +kernel
/- Turner.back(LFontHouse$Bytes;IIILFontHouse$Bytes;LFontHouse$Bytes;I)V -/
def s183_0 : List E := [(.iload_n 3, 0, [3]), (.bipush 36, 36, []), (.if_icmp .ge 7, 0, [10]), (.iconst 0, 0, []), (.goto 10, 0, [17])]
def s183_10 : List E := [(.aload_n 1, 0, [1]), (.iload_n 2, 0, [2]), (.iconst 4, 4, []), (.iadd, 0, []), (.invokevirtual 154, 0, [118, 1, 3, 124, 0, 0, 0]), (.nop, 0, [17])]
def s183_17 : List E := [(.istore 8, 0, [8]), (.iload_n 3, 0, [3]), (.bipush 36, 36, []), (.if_icmp .ge 7, 0, [29]), (.iconst 2, 2, []), (.goto 11, 0, [37])]
def s183_29 : List E := [(.aload_n 1, 0, [1]), (.iload_n 2, 0, [2]), (.bipush 6, 6, []), (.iadd, 0, []), (.invokevirtual 154, 0, [118, 1, 3, 124, 0, 0, 0]), (.nop, 0, [37])]
def s183_37 : List E := [(.istore 9, 0, [9]), (.iload_n 3, 0, [3]), (.bipush 36, 36, []), (.if_icmp .lt 45, 0, [87]), (.aload_n 1, 0, [1]), (.iload_n 2, 0, [2]), (.invokevirtual 154, 0, [118, 1, 3, 124, 0, 0, 0]), (.ifCond .ne 37, 0, [87]), (.aload_n 1, 0, [1]), (.iload_n 2, 0, [2]), (.iconst 2, 2, []), (.iadd, 0, []), (.invokevirtual 154, 0, [118, 1, 3, 124, 0, 0, 0]), (.iconst 2, 2, []), (.if_icmp .ge 26, 0, [87]), (.iload 8, 0, [8]), (.i2l, 0, []), (.lconst 1, 1, []), (.ldc2_w 157, 64, []), (.invokestatic 159, 0, [38, 141, 0, 3, 5, 5, 5]), (.ifCond .eq 13, 0, [87]), (.iload 9, 0, [9]), (.iconst 2, 2, []), (.if_icmp .ge 7, 0, [87]), (.iconst 1, 1, []), (.goto 4, 0, [88])]
def s183_87 : List E := [(.iconst 0, 0, []), (.nop, 0, [88])]
def s183_88 : List E := [(.istore 10, 0, [10]), (.ldc2_w 163, 36, []), (.lstore 11, 0, [11]), (.iconst 0, 0, []), (.istore 13, 0, [13]), (.nop, 0, [98])]
def s183_98 : List E := [(.iload 13, 0, [13]), (.bipush 7, 7, []), (.if_icmp .ge 32, 0, [134]), (.iload 10, 0, [10]), (.ifCond .eq 27, 0, [134]), (.lload 11, 0, [11]), (.aload_n 1, 0, [1]), (.iload_n 2, 0, [2]), (.bipush 8, 8, []), (.iadd, 0, []), (.iconst 4, 4, []), (.iload 13, 0, [13]), (.imul, 0, []), (.iadd, 0, []), (.invokevirtual 165, 0, [122, 1, 3, 82, 0, 5, 0]), (.ladd, 0, []), (.lstore 11, 0, [11]), (.iinc 13 1, 1, [13]), (.goto (-33), 0, [98])]
def s183_134 : List E := [(.iload 10, 0, [10]), (.ifCond .eq 25, 0, [161]), (.aload_n 1, 0, [1]), (.iload_n 2, 0, [2]), (.iconst 2, 2, []), (.iadd, 0, []), (.invokevirtual 154, 0, [118, 1, 3, 124, 0, 0, 0]), (.iconst 1, 1, []), (.if_icmp .ne 14, 0, [161]), (.iload 8, 0, [8]), (.bipush 7, 7, []), (.iadd, 0, []), (.bipush 8, 8, []), (.idiv, 0, []), (.goto 4, 0, [162])]
def s183_161 : List E := [(.iconst 0, 0, []), (.nop, 0, [162])]
def s183_162 : List E := [(.istore 13, 0, [13]), (.iload 10, 0, [10]), (.ifCond .eq 15, 0, [181]), (.lload 11, 0, [11]), (.iload 13, 0, [13]), (.i2l, 0, []), (.ladd, 0, []), (.iload_n 3, 0, [3]), (.i2l, 0, []), (.lcmp, 0, []), (.ifCond .eq 15, 0, [193]), (.nop, 0, [181])]
def s183_181 : List E := [(.new 169, 0, [17, 35, 8]), (.dup, 0, []), (.bipush 56, 56, []), (.iload 4, 0, [4]), (.invokespecial 171, 0, [470, 17, 35, 82, 0, 100, 0, 0]), (.athrow, 0, [])]
def s183_193 : List E := [(.iload_n 2, 0, [2]), (.bipush 36, 36, []), (.iadd, 0, []), (.istore 14, 0, [14]), (.iconst 0, 0, []), (.istore 15, 0, [15]), (.nop, 0, [202])]
def s183_202 : List E := [(.iload 15, 0, [15]), (.bipush 7, 7, []), (.if_icmp .ge 64, 0, [270]), (.aload_n 1, 0, [1]), (.iload_n 2, 0, [2]), (.bipush 8, 8, []), (.iadd, 0, []), (.iconst 4, 4, []), (.iload 15, 0, [15]), (.imul, 0, []), (.iadd, 0, []), (.invokevirtual 174, 0, [117, 1, 3, 103, 0, 0, 0]), (.istore 16, 0, [16]), (.aload_n 0, 0, [0]), (.getfield 11, 1, [12, 0, 91, 1]), (.iload 15, 0, [15]), (.aaload, 0, [45, 2]), (.invokevirtual 38, 0, [112, 1, 3, 146, 0, 100]), (.aload_n 0, 0, [0]), (.getfield 11, 1, [12, 0, 91, 1]), (.iload 15, 0, [15]), (.aaload, 0, [45, 2]), (.aload_n 1, 0, [1]), (.iload 14, 0, [14]), (.iload 16, 0, [16]), (.invokevirtual 66, 0, [115, 1, 3, 83, 0, 100, 0, 0, 7]), (.aload_n 0, 0, [0]), (.getfield 17, 2, [12, 1, 81, 1]), (.iload 15, 0, [15]), (.iconst 0, 0, []), (.iastore, 0, []), (.iload 14, 0, [14]), (.iload 16, 0, [16]), (.iadd, 0, []), (.istore 14, 0, [14]), (.iinc 15 1, 1, [15]), (.goto (-65), 0, [202])]
def s183_270 : List E := [(.iload 8, 0, [8]), (.bipush 31, 31, []), (.iadd, 0, []), (.bipush 32, 32, []), (.idiv, 0, []), (.iconst 4, 4, []), (.imul, 0, []), (.istore 15, 0, [15]), (.aload_n 0, 0, [0]), (.iconst 1, 1, []), (.putfield 142, 0, [12, 5, 3]), (.iconst 0, 0, []), (.istore 16, 0, [16]), (.nop, 0, [290])]
def s183_290 : List E := [(.iload 16, 0, [16]), (.iload 15, 0, [15]), (.if_icmp .ge 15, 0, [309]), (.aload_n 0, 0, [0]), (.iconst 5, 5, []), (.invokevirtual 148, 0, [184, 12, 25, 124, 0, 0, 0]), (.pop, 0, []), (.iinc 16 1, 1, [16]), (.goto (-16), 0, [290])]
def s183_309 : List E := [(.aload 6, 0, [6]), (.iconst 0, 0, []), (.iload 9, 0, [9]), (.invokestatic 177, 0, [178, 81, 0, 100, 0, 0, 7]), (.iconst 0, 0, []), (.istore 16, 0, [16]), (.nop, 0, [320])]
def s183_320 : List E := [(.iload 16, 0, [16]), (.iload 8, 0, [8]), (.if_icmp .ge 112, 0, [436]), (.aload_n 0, 0, [0]), (.getfield 142, 0, [12, 5, 3]), (.ifCond .eq 14, 0, [345]), (.aload_n 0, 0, [0]), (.iload 16, 0, [16]), (.iload 8, 0, [8]), (.invokevirtual 180, 0, [185, 12, 25, 8, 0, 3, 0, 0]), (.ifCond .ne 15, 0, [357]), (.nop, 0, [345])]
def s183_345 : List E := [(.new 169, 0, [17, 35, 8]), (.dup, 0, []), (.bipush 57, 57, []), (.iload 16, 0, [16]), (.invokespecial 171, 0, [470, 17, 35, 82, 0, 100, 0, 0]), (.athrow, 0, [])]
def s183_357 : List E := [(.aload_n 0, 0, [0]), (.getfield 34, 6, [12, 4, 23, 1]), (.aload_n 0, 0, [0]), (.getfield 34, 6, [12, 4, 23, 1]), (.getfield 82, 0, [11, 0, 0]), (.ifCond .le 37, 0, [405]), (.iload 13, 0, [13]), (.ifCond .le 32, 0, [405]), (.aload_n 1, 0, [1]), (.iload 14, 0, [14]), (.iload 16, 0, [16]), (.bipush 8, 8, []), (.idiv, 0, []), (.iadd, 0, []), (.invokevirtual 145, 0, [114, 1, 3, 145, 0, 0, 0]), (.sipush 128, 128, []), (.iload 16, 0, [16]), (.bipush 8, 8, []), (.irem, 0, []), (.ishr, 0, []), (.iand, 0, []), (.ifCond .eq 7, 0, [405]), (.iconst 1, 1, []), (.goto 4, 0, [406])]
def s183_405 : List E := [(.iconst 0, 0, []), (.nop, 0, [406])]
def s183_406 : List E := [(.putfield 59, 0, [11, 8, 3]), (.aload_n 0, 0, [0]), (.getfield 34, 6, [12, 4, 23, 1]), (.aload 5, 0, [5]), (.invokevirtual 184, 0, [171, 11, 23, 38, 0, 100, 7]), (.aload 6, 0, [6]), (.aload 5, 0, [5]), (.getfield 63, 0, [1, 1, 0]), (.iload 9, 0, [9]), (.invokestatic 177, 0, [178, 81, 0, 100, 0, 0, 7]), (.iinc 16 1, 1, [16]), (.goto (-113), 0, [320])]
def s183_436 : List E := [(.iconst 0, 0, []), (.istore 16, 0, [16]), (.nop, 0, [439])]
def s183_439 : List E := [(.iload 16, 0, [16]), (.bipush 7, 7, []), (.if_icmp .ge 41, 0, [484]), (.aload_n 0, 0, [0]), (.getfield 17, 2, [12, 1, 81, 1]), (.iload 16, 0, [16]), (.iaload, 0, []), (.aload_n 0, 0, [0]), (.getfield 11, 1, [12, 0, 91, 1]), (.iload 16, 0, [16]), (.aaload, 0, [45, 2]), (.getfield 63, 0, [1, 1, 0]), (.if_icmp .ge 15, 0, [478]), (.new 169, 0, [17, 35, 8]), (.dup, 0, []), (.bipush 58, 58, []), (.iload 16, 0, [16]), (.invokespecial 171, 0, [470, 17, 35, 82, 0, 100, 0, 0]), (.athrow, 0, [])]
def s183_478 : List E := [(.iinc 16 1, 1, [16]), (.goto (-42), 0, [439])]
def s183_484 : List E := [(.aload 5, 0, [5]), (.getfield 79, 0, [1, 2, 3]), (.ifCond .ne 13, 0, [502]), (.aload 6, 0, [6]), (.getfield 63, 0, [1, 1, 0]), (.iload 7, 0, [7]), (.if_icmp .eq 15, 0, [514]), (.nop, 0, [502])]
def s183_502 : List E := [(.new 169, 0, [17, 35, 8]), (.dup, 0, []), (.bipush 59, 59, []), (.iload 4, 0, [4]), (.invokespecial 171, 0, [470, 17, 35, 82, 0, 100, 0, 0]), (.athrow, 0, [])]
def s183_514 : List E := [(.return_, 0, [])]
def cd183 : List (Nat × List E) := [(0, s183_0), (10, s183_10), (17, s183_17), (29, s183_29), (37, s183_37), (87, s183_87), (88, s183_88), (98, s183_98), (134, s183_134), (161, s183_161), (162, s183_162), (181, s183_181), (193, s183_193), (202, s183_202), (270, s183_270), (290, s183_290), (309, s183_309), (320, s183_320), (345, s183_345), (357, s183_357), (405, s183_405), (406, s183_406), (436, s183_436), (439, s183_439), (478, s183_478), (484, s183_484), (502, s183_502), (514, s183_514)]
theorem l183_0 : lkc cd183 0 = s183_0 := rfl
theorem l183_10 : lkc cd183 10 = s183_10 := rfl
theorem l183_17 : lkc cd183 17 = s183_17 := rfl
theorem l183_29 : lkc cd183 29 = s183_29 := rfl
theorem l183_37 : lkc cd183 37 = s183_37 := rfl
theorem l183_87 : lkc cd183 87 = s183_87 := rfl
theorem l183_88 : lkc cd183 88 = s183_88 := rfl
theorem l183_98 : lkc cd183 98 = s183_98 := rfl
theorem l183_134 : lkc cd183 134 = s183_134 := rfl
theorem l183_161 : lkc cd183 161 = s183_161 := rfl
theorem l183_162 : lkc cd183 162 = s183_162 := rfl
theorem l183_181 : lkc cd183 181 = s183_181 := rfl
theorem l183_193 : lkc cd183 193 = s183_193 := rfl
theorem l183_202 : lkc cd183 202 = s183_202 := rfl
theorem l183_270 : lkc cd183 270 = s183_270 := rfl
theorem l183_290 : lkc cd183 290 = s183_290 := rfl
theorem l183_309 : lkc cd183 309 = s183_309 := rfl
theorem l183_320 : lkc cd183 320 = s183_320 := rfl
theorem l183_345 : lkc cd183 345 = s183_345 := rfl
theorem l183_357 : lkc cd183 357 = s183_357 := rfl
theorem l183_405 : lkc cd183 405 = s183_405 := rfl
theorem l183_406 : lkc cd183 406 = s183_406 := rfl
theorem l183_436 : lkc cd183 436 = s183_436 := rfl
theorem l183_439 : lkc cd183 439 = s183_439 := rfl
theorem l183_478 : lkc cd183 478 = s183_478 := rfl
theorem l183_484 : lkc cd183 484 = s183_484 := rfl
theorem l183_502 : lkc cd183 502 = s183_502 := rfl
theorem l183_514 : lkc cd183 514 = s183_514 := rfl
theorem k183 : chkM 183 12 true cd183 = true := by decide +kernel
/- Turner.octet(I)I -/
def s184_0 : List E := [(.aload_n 0, 0, [0]), (.getfield 17, 2, [12, 1, 81, 1]), (.iload_n 1, 0, [1]), (.iaload, 0, []), (.aload_n 0, 0, [0]), (.getfield 11, 1, [12, 0, 91, 1]), (.iload_n 1, 0, [1]), (.aaload, 0, [45, 2]), (.getfield 63, 0, [1, 1, 0]), (.if_icmp .ne 10, 0, [25]), (.aload_n 0, 0, [0]), (.iconst 0, 0, []), (.putfield 142, 0, [12, 5, 3]), (.iconst 0, 0, []), (.ireturn, 0, [])]
def s184_25 : List E := [(.aload_n 0, 0, [0]), (.getfield 11, 1, [12, 0, 91, 1]), (.iload_n 1, 0, [1]), (.aaload, 0, [45, 2]), (.aload_n 0, 0, [0]), (.getfield 17, 2, [12, 1, 81, 1]), (.iload_n 1, 0, [1]), (.dup2, 0, []), (.iaload, 0, []), (.dup_x2, 0, []), (.iconst 1, 1, []), (.iadd, 0, []), (.iastore, 0, []), (.invokevirtual 145, 0, [114, 1, 3, 8, 0, 0, 0]), (.ireturn, 0, [])]
def cd184 : List (Nat × List E) := [(0, s184_0), (25, s184_25)]
theorem l184_0 : lkc cd184 0 = s184_0 := rfl
theorem l184_25 : lkc cd184 25 = s184_25 := rfl
theorem k184 : chkM 184 12 true cd184 = true := by decide +kernel
/- Turner.backOne(II)Z -/
def s185_0 : List E := [(.aload_n 0, 0, [0]), (.getfield 34, 6, [12, 4, 23, 1]), (.invokevirtual 188, 0, [156, 11, 23, 100, 0, 100]), (.aload_n 0, 0, [0]), (.iconst 0, 0, []), (.invokevirtual 151, 0, [186, 12, 25, 78, 0, 0, 0]), (.i2s, 0, []), (.istore_n 3, 0, [3]), (.aload_n 0, 0, [0]), (.getfield 142, 0, [12, 5, 3]), (.ifCond .eq 32, 0, [50]), (.aload_n 0, 0, [0]), (.getfield 11, 1, [12, 0, 91, 1]), (.iconst 5, 5, []), (.aaload, 0, [45, 2]), (.iload_n 1, 0, [1]), (.bipush 8, 8, []), (.idiv, 0, []), (.invokevirtual 145, 0, [114, 1, 3, 120, 0, 0, 0]), (.sipush 128, 128, []), (.iload_n 1, 0, [1]), (.bipush 8, 8, []), (.irem, 0, []), (.ishr, 0, []), (.iand, 0, []), (.ifCond .eq 7, 0, [50]), (.iconst 1, 1, []), (.goto 4, 0, [51])]
def s185_50 : List E := [(.iconst 0, 0, []), (.nop, 0, [51])]
def s185_51 : List E := [(.istore 4, 0, [4]), (.aload_n 0, 0, [0]), (.getfield 142, 0, [12, 5, 3]), (.ifCond .eq 35, 0, [92]), (.iload_n 3, 0, [3]), (.i2l, 0, []), (.ldc2_w 189, -1, []), (.ldc2_w 191, 32, []), (.invokestatic 159, 0, [38, 116, 0, 3, 5, 5, 5]), (.ifCond .eq 21, 0, [92]), (.iload_n 3, 0, [3]), (.ifCond .ne 8, 0, [83]), (.iload 4, 0, [4]), (.ifCond .ne 12, 0, [92]), (.nop, 0, [83])]
def s185_83 : List E := [(.iload_n 3, 0, [3]), (.ifCond .ge 10, 0, [94]), (.iload 4, 0, [4]), (.ifCond .ne 5, 0, [94]), (.nop, 0, [92])]
def s185_92 : List E := [(.iconst 0, 0, []), (.ireturn, 0, [1])]
def s185_94 : List E := [(.aload_n 0, 0, [0]), (.getfield 34, 6, [12, 4, 23, 1]), (.iload_n 3, 0, [3]), (.putfield 82, 0, [11, 0, 0]), (.iload_n 3, 0, [3]), (.ifCond .ne 5, 0, [108]), (.iconst 1, 1, []), (.ireturn, 0, [1])]
def s185_108 : List E := [(.iload_n 3, 0, [3]), (.ifCond .ge 14, 0, [123]), (.aload_n 0, 0, [0]), (.iload_n 2, 0, [2]), (.invokevirtual 193, 0, [187, 12, 25, 8, 0, 3, 0]), (.ifCond .ne 15, 0, [132]), (.goto 10, 0, [130])]
def s185_123 : List E := [(.aload_n 0, 0, [0]), (.invokevirtual 196, 0, [188, 12, 25, 30, 0, 3]), (.ifCond .ne 5, 0, [132]), (.nop, 0, [130])]
def s185_130 : List E := [(.iconst 0, 0, []), (.ireturn, 0, [1])]
def s185_132 : List E := [(.iload_n 3, 0, [3]), (.ifCond .gt 13, 0, [146]), (.aload_n 0, 0, [0]), (.getfield 34, 6, [12, 4, 23, 1]), (.invokevirtual 103, 0, [164, 11, 23, 119, 0, 3]), (.ifCond .eq 12, 0, [155]), (.nop, 0, [146])]
def s185_146 : List E := [(.aload_n 0, 0, [0]), (.invokevirtual 199, 0, [192, 12, 25, 35, 0, 3]), (.ifCond .ne 5, 0, [155]), (.iconst 0, 0, []), (.ireturn, 0, [1])]
def s185_155 : List E := [(.iload 4, 0, [4]), (.ifCond .eq 37, 0, [194]), (.iconst 0, 0, []), (.istore 5, 0, [5]), (.nop, 0, [163])]
def s185_163 : List E := [(.iload 5, 0, [5]), (.iconst 4, 4, []), (.if_icmp .ge 25, 0, [191]), (.aload_n 0, 0, [0]), (.getfield 34, 6, [12, 4, 23, 1]), (.getfield 93, 1, [11, 1, 81, 1]), (.iload 5, 0, [5]), (.aload_n 0, 0, [0]), (.iconst 5, 5, []), (.invokevirtual 151, 0, [186, 12, 25, 78, 0, 0, 0]), (.i2s, 0, []), (.iastore, 0, []), (.iinc 5 1, 1, [5]), (.goto (-25), 0, [163])]
def s185_191 : List E := [(.goto 10, 0, [201])]
def s185_194 : List E := [(.aload_n 0, 0, [0]), (.getfield 34, 6, [12, 4, 23, 1]), (.invokevirtual 202, 0, [169, 11, 23, 75, 0, 100]), (.nop, 0, [201])]
def s185_201 : List E := [(.aload_n 0, 0, [0]), (.getfield 142, 0, [12, 5, 3]), (.ireturn, 0, [1])]
def cd185 : List (Nat × List E) := [(0, s185_0), (50, s185_50), (51, s185_51), (83, s185_83), (92, s185_92), (94, s185_94), (108, s185_108), (123, s185_123), (130, s185_130), (132, s185_132), (146, s185_146), (155, s185_155), (163, s185_163), (191, s185_191), (194, s185_194), (201, s185_201)]
theorem l185_0 : lkc cd185 0 = s185_0 := rfl
theorem l185_50 : lkc cd185 50 = s185_50 := rfl
theorem l185_51 : lkc cd185 51 = s185_51 := rfl
theorem l185_83 : lkc cd185 83 = s185_83 := rfl
theorem l185_92 : lkc cd185 92 = s185_92 := rfl
theorem l185_94 : lkc cd185 94 = s185_94 := rfl
theorem l185_108 : lkc cd185 108 = s185_108 := rfl
theorem l185_123 : lkc cd185 123 = s185_123 := rfl
theorem l185_130 : lkc cd185 130 = s185_130 := rfl
theorem l185_132 : lkc cd185 132 = s185_132 := rfl
theorem l185_146 : lkc cd185 146 = s185_146 := rfl
theorem l185_155 : lkc cd185 155 = s185_155 := rfl
theorem l185_163 : lkc cd185 163 = s185_163 := rfl
theorem l185_191 : lkc cd185 191 = s185_191 := rfl
theorem l185_194 : lkc cd185 194 = s185_194 := rfl
theorem l185_201 : lkc cd185 201 = s185_201 := rfl
theorem k185 : chkM 185 12 true cd185 = true := by decide +kernel
/- Turner.two(I)I -/
def s186_0 : List E := [(.aload_n 0, 0, [0]), (.iload_n 1, 0, [1]), (.invokevirtual 148, 0, [184, 12, 25, 8, 0, 0, 0]), (.bipush 8, 8, []), (.ishl, 0, []), (.aload_n 0, 0, [0]), (.iload_n 1, 0, [1]), (.invokevirtual 148, 0, [184, 12, 25, 8, 0, 0, 0]), (.ior, 0, []), (.ireturn, 0, [])]
def cd186 : List (Nat × List E) := [(0, s186_0)]
theorem l186_0 : lkc cd186 0 = s186_0 := rfl
theorem k186 : chkM 186 12 true cd186 = true := by decide +kernel
/- Turner.backParts(I)Z -/
def s187_0 : List E := [(.aload_n 0, 0, [0]), (.getfield 11, 1, [12, 0, 91, 1]), (.iconst 4, 4, []), (.aaload, 0, [45, 2]), (.astore_n 2, 0, [2]), (.aload_n 0, 0, [0]), (.getfield 34, 6, [12, 4, 23, 1]), (.aload_n 2, 0, [2]), (.putfield 207, 0, [11, 16, 7]), (.aload_n 0, 0, [0]), (.getfield 34, 6, [12, 4, 23, 1]), (.aload_n 0, 0, [0]), (.getfield 17, 2, [12, 1, 81, 1]), (.iconst 4, 4, []), (.iaload, 0, []), (.putfield 210, 0, [11, 17, 0]), (.aload_n 0, 0, [0]), (.getfield 34, 6, [12, 4, 23, 1]), (.aload_n 2, 0, [2]), (.getfield 63, 0, [1, 1, 0]), (.putfield 212, 0, [11, 18, 0]), (.aload_n 0, 0, [0]), (.getfield 34, 6, [12, 4, 23, 1]), (.iload_n 1, 0, [1]), (.invokevirtual 215, 0, [160, 11, 23, 8, 0, 3, 0]), (.istore_n 3, 0, [3]), (.aload_n 0, 0, [0]), (.getfield 17, 2, [12, 1, 81, 1]), (.iconst 4, 4, []), (.aload_n 0, 0, [0]), (.getfield 34, 6, [12, 4, 23, 1]), (.getfield 210, 0, [11, 17, 0]), (.iastore, 0, []), (.iload_n 3, 0, [3]), (.ireturn, 0, [1])]
def cd187 : List (Nat × List E) := [(0, s187_0)]
theorem l187_0 : lkc cd187 0 = s187_0 := rfl
theorem k187 : chkM 187 12 true cd187 = true := by decide +kernel
/- Turner.backPoints()Z -/
def s188_0 : List E := [(.iconst 0, 0, []), (.istore_n 1, 0, [1]), (.iconst 0, 0, []), (.istore_n 2, 0, [2]), (.nop, 0, [4])]
def s188_4 : List E := [(.iload_n 2, 0, [2]), (.aload_n 0, 0, [0]), (.getfield 34, 6, [12, 4, 23, 1]), (.getfield 82, 0, [11, 0, 0]), (.if_icmp .ge 53, 0, [65]), (.aload_n 0, 0, [0]), (.iconst 1, 1, []), (.invokevirtual 205, 0, [189, 12, 25, 9, 0, 0, 0]), (.istore_n 3, 0, [3]), (.aload_n 0, 0, [0]), (.getfield 142, 0, [12, 5, 3]), (.ifCond .eq 16, 0, [41]), (.iload_n 3, 0, [3]), (.ifCond .eq 12, 0, [41]), (.iload_n 3, 0, [3]), (.sipush 256, 256, []), (.iload_n 1, 0, [1]), (.isub, 0, []), (.if_icmp .le 5, 0, [43]), (.nop, 0, [41])]
def s188_41 : List E := [(.iconst 0, 0, []), (.ireturn, 0, [1])]
def s188_43 : List E := [(.iload_n 1, 0, [1]), (.iload_n 3, 0, [3]), (.iadd, 0, []), (.istore_n 1, 0, [1]), (.aload_n 0, 0, [0]), (.getfield 34, 6, [12, 4, 23, 1]), (.getfield 112, 5, [11, 7, 81, 1]), (.iload_n 2, 0, [2]), (.iload_n 1, 0, [1]), (.iconst 1, 1, []), (.isub, 0, []), (.iastore, 0, []), (.iinc 2 1, 1, [2]), (.goto (-58), 0, [4])]
def s188_65 : List E := [(.aload_n 0, 0, [0]), (.getfield 34, 6, [12, 4, 23, 1]), (.iload_n 1, 0, [1]), (.putfield 115, 0, [11, 3, 0]), (.iconst 0, 0, []), (.istore_n 2, 0, [2]), (.iconst 0, 0, []), (.istore_n 3, 0, [3]), (.iconst 0, 0, []), (.istore 4, 0, [4]), (.nop, 0, [80])]
def s188_80 : List E := [(.iload 4, 0, [4]), (.iload_n 1, 0, [1]), (.if_icmp .ge 129, 0, [212]), (.aload_n 0, 0, [0]), (.iconst 2, 2, []), (.invokevirtual 148, 0, [184, 12, 25, 52, 0, 0, 0]), (.istore 5, 0, [5]), (.aload_n 0, 0, [0]), (.getfield 34, 6, [12, 4, 23, 1]), (.getfield 128, 4, [11, 6, 89, 1]), (.iload 4, 0, [4]), (.iload 5, 0, [5]), (.sipush 128, 128, []), (.if_icmp .ge 7, 0, [114]), (.iconst 1, 1, []), (.goto 4, 0, [115])]
def s188_114 : List E := [(.iconst 0, 0, []), (.nop, 0, [115])]
def s188_115 : List E := [(.bastore, 0, []), (.aload_n 0, 0, [0]), (.iload 5, 0, [5]), (.bipush 127, 127, []), (.iand, 0, []), (.invokevirtual 218, 0, [190, 12, 25, 8, 0, 100, 0]), (.iload_n 2, 0, [2]), (.aload_n 0, 0, [0]), (.getfield 221, 0, [12, 6, 0]), (.iadd, 0, []), (.istore_n 2, 0, [2]), (.iload_n 3, 0, [3]), (.aload_n 0, 0, [0]), (.getfield 224, 0, [12, 7, 0]), (.iadd, 0, []), (.istore_n 3, 0, [3]), (.aload_n 0, 0, [0]), (.getfield 142, 0, [12, 5, 3]), (.ifCond .eq 39, 0, [182]), (.aload_n 0, 0, [0]), (.getfield 221, 0, [12, 6, 0]), (.aload_n 0, 0, [0]), (.getfield 221, 0, [12, 6, 0]), (.i2s, 0, []), (.if_icmp .ne 27, 0, [182]), (.aload_n 0, 0, [0]), (.getfield 224, 0, [12, 7, 0]), (.aload_n 0, 0, [0]), (.getfield 224, 0, [12, 7, 0]), (.i2s, 0, []), (.if_icmp .ne 15, 0, [182]), (.iload_n 2, 0, [2]), (.iload_n 2, 0, [2]), (.i2s, 0, []), (.if_icmp .ne 9, 0, [182]), (.iload_n 3, 0, [3]), (.iload_n 3, 0, [3]), (.i2s, 0, []), (.if_icmp .eq 5, 0, [184]), (.nop, 0, [182])]
def s188_182 : List E := [(.iconst 0, 0, []), (.ireturn, 0, [1])]
def s188_184 : List E := [(.aload_n 0, 0, [0]), (.getfield 34, 6, [12, 4, 23, 1]), (.getfield 118, 2, [11, 4, 81, 1]), (.iload 4, 0, [4]), (.iload_n 2, 0, [2]), (.iastore, 0, []), (.aload_n 0, 0, [0]), (.getfield 34, 6, [12, 4, 23, 1]), (.getfield 125, 3, [11, 5, 81, 1]), (.iload 4, 0, [4]), (.iload_n 3, 0, [3]), (.iastore, 0, []), (.iinc 4 1, 1, [4]), (.goto (-129), 0, [80])]
def s188_212 : List E := [(.iconst 1, 1, []), (.ireturn, 0, [1])]
def cd188 : List (Nat × List E) := [(0, s188_0), (4, s188_4), (41, s188_41), (43, s188_43), (65, s188_65), (80, s188_80), (114, s188_114), (115, s188_115), (182, s188_182), (184, s188_184), (212, s188_212)]
theorem l188_0 : lkc cd188 0 = s188_0 := rfl
theorem l188_4 : lkc cd188 4 = s188_4 := rfl
theorem l188_41 : lkc cd188 41 = s188_41 := rfl
theorem l188_43 : lkc cd188 43 = s188_43 := rfl
theorem l188_65 : lkc cd188 65 = s188_65 := rfl
theorem l188_80 : lkc cd188 80 = s188_80 := rfl
theorem l188_114 : lkc cd188 114 = s188_114 := rfl
theorem l188_115 : lkc cd188 115 = s188_115 := rfl
theorem l188_182 : lkc cd188 182 = s188_182 := rfl
theorem l188_184 : lkc cd188 184 = s188_184 := rfl
theorem l188_212 : lkc cd188 212 = s188_212 := rfl
theorem k188 : chkM 188 12 true cd188 = true := by decide +kernel
/- Turner.shorter(I)I -/
def s189_0 : List E := [(.aload_n 0, 0, [0]), (.iload_n 1, 0, [1]), (.invokevirtual 148, 0, [184, 12, 25, 29, 0, 0, 0]), (.istore_n 2, 0, [2]), (.iload_n 2, 0, [2]), (.sipush 253, 253, []), (.if_icmp .ne 11, 0, [21]), (.aload_n 0, 0, [0]), (.iload_n 1, 0, [1]), (.invokevirtual 151, 0, [186, 12, 25, 8, 0, 0, 0]), (.goto 42, 0, [60])]
def s189_21 : List E := [(.iload_n 2, 0, [2]), (.sipush 254, 254, []), (.if_icmp .ne 15, 0, [40]), (.aload_n 0, 0, [0]), (.iload_n 1, 0, [1]), (.invokevirtual 148, 0, [184, 12, 25, 29, 0, 0, 0]), (.sipush 506, 506, []), (.iadd, 0, []), (.goto 23, 0, [60])]
def s189_40 : List E := [(.iload_n 2, 0, [2]), (.sipush 255, 255, []), (.if_icmp .ne 15, 0, [59]), (.aload_n 0, 0, [0]), (.iload_n 1, 0, [1]), (.invokevirtual 148, 0, [184, 12, 25, 29, 0, 0, 0]), (.sipush 253, 253, []), (.iadd, 0, []), (.goto 4, 0, [60])]
def s189_59 : List E := [(.iload_n 2, 0, [2]), (.nop, 0, [60])]
def s189_60 : List E := [(.ireturn, 0, [])]
def cd189 : List (Nat × List E) := [(0, s189_0), (21, s189_21), (40, s189_40), (59, s189_59), (60, s189_60)]
theorem l189_0 : lkc cd189 0 = s189_0 := rfl
theorem l189_21 : lkc cd189 21 = s189_21 := rfl
theorem l189_40 : lkc cd189 40 = s189_40 := rfl
theorem l189_59 : lkc cd189 59 = s189_59 := rfl
theorem l189_60 : lkc cd189 60 = s189_60 := rfl
theorem k189 : chkM 189 12 true cd189 = true := by decide +kernel
/- Turner.backStep(I)V -/
def s190_0 : List E := [(.aload_n 0, 0, [0]), (.iconst 3, 3, []), (.invokevirtual 148, 0, [184, 12, 25, 29, 0, 0, 0]), (.istore_n 2, 0, [2]), (.iload_n 1, 0, [1]), (.bipush 10, 10, []), (.if_icmp .ge 28, 0, [37]), (.aload_n 0, 0, [0]), (.iconst 0, 0, []), (.putfield 221, 0, [12, 6, 0]), (.aload_n 0, 0, [0]), (.iload_n 1, 0, [1]), (.iload_n 1, 0, [1]), (.iconst 2, 2, []), (.idiv, 0, []), (.sipush 256, 256, []), (.imul, 0, []), (.iload_n 2, 0, [2]), (.iadd, 0, []), (.invokestatic 227, 0, [191, 50, 0, 0, 0, 0]), (.putfield 224, 0, [12, 7, 0]), (.goto 250, 0, [284])]
def s190_37 : List E := [(.iload_n 1, 0, [1]), (.bipush 20, 20, []), (.if_icmp .ge 31, 0, [71]), (.aload_n 0, 0, [0]), (.iload_n 1, 0, [1]), (.iload_n 1, 0, [1]), (.bipush 10, 10, []), (.isub, 0, []), (.iconst 2, 2, []), (.idiv, 0, []), (.sipush 256, 256, []), (.imul, 0, []), (.iload_n 2, 0, [2]), (.iadd, 0, []), (.invokestatic 227, 0, [191, 50, 0, 0, 0, 0]), (.putfield 221, 0, [12, 6, 0]), (.aload_n 0, 0, [0]), (.iconst 0, 0, []), (.putfield 224, 0, [12, 7, 0]), (.goto 216, 0, [284])]
def s190_71 : List E := [(.iload_n 1, 0, [1]), (.bipush 84, 84, []), (.if_icmp .ge 59, 0, [133]), (.iload_n 1, 0, [1]), (.bipush 20, 20, []), (.isub, 0, []), (.istore_n 3, 0, [3]), (.aload_n 0, 0, [0]), (.iload_n 1, 0, [1]), (.iconst 1, 1, []), (.iload_n 3, 0, [3]), (.bipush 16, 16, []), (.idiv, 0, []), (.bipush 16, 16, []), (.imul, 0, []), (.iadd, 0, []), (.iload_n 2, 0, [2]), (.bipush 16, 16, []), (.idiv, 0, []), (.iadd, 0, []), (.invokestatic 227, 0, [191, 50, 0, 0, 0, 0]), (.putfield 221, 0, [12, 6, 0]), (.aload_n 0, 0, [0]), (.iload_n 1, 0, [1]), (.iconst 1, 1, []), (.ishr, 0, []), (.iconst 1, 1, []), (.iload_n 3, 0, [3]), (.bipush 16, 16, []), (.irem, 0, []), (.iconst 4, 4, []), (.idiv, 0, []), (.bipush 16, 16, []), (.imul, 0, []), (.iadd, 0, []), (.iload_n 2, 0, [2]), (.bipush 16, 16, []), (.irem, 0, []), (.iadd, 0, []), (.invokestatic 227, 0, [191, 50, 0, 0, 0, 0]), (.putfield 224, 0, [12, 7, 0]), (.goto 154, 0, [284])]
def s190_133 : List E := [(.iload_n 1, 0, [1]), (.bipush 120, 120, []), (.if_icmp .ge 59, 0, [195]), (.iload_n 1, 0, [1]), (.bipush 84, 84, []), (.isub, 0, []), (.istore_n 3, 0, [3]), (.aload_n 0, 0, [0]), (.iload_n 1, 0, [1]), (.iconst 1, 1, []), (.iload_n 3, 0, [3]), (.bipush 12, 12, []), (.idiv, 0, []), (.sipush 256, 256, []), (.imul, 0, []), (.iadd, 0, []), (.iload_n 2, 0, [2]), (.iadd, 0, []), (.invokestatic 227, 0, [191, 50, 0, 0, 0, 0]), (.putfield 221, 0, [12, 6, 0]), (.aload_n 0, 0, [0]), (.iload_n 1, 0, [1]), (.iconst 1, 1, []), (.ishr, 0, []), (.iconst 1, 1, []), (.iload_n 3, 0, [3]), (.bipush 12, 12, []), (.irem, 0, []), (.iconst 4, 4, []), (.idiv, 0, []), (.sipush 256, 256, []), (.imul, 0, []), (.iadd, 0, []), (.aload_n 0, 0, [0]), (.iconst 3, 3, []), (.invokevirtual 148, 0, [184, 12, 25, 29, 0, 0, 0]), (.iadd, 0, []), (.invokestatic 227, 0, [191, 50, 0, 0, 0, 0]), (.putfield 224, 0, [12, 7, 0]), (.goto 92, 0, [284])]
def s190_195 : List E := [(.iload_n 1, 0, [1]), (.bipush 124, 124, []), (.if_icmp .ge 53, 0, [251]), (.aload_n 0, 0, [0]), (.iconst 3, 3, []), (.invokevirtual 148, 0, [184, 12, 25, 29, 0, 0, 0]), (.istore_n 3, 0, [3]), (.aload_n 0, 0, [0]), (.iload_n 1, 0, [1]), (.iload_n 2, 0, [2]), (.bipush 16, 16, []), (.imul, 0, []), (.iload_n 3, 0, [3]), (.bipush 16, 16, []), (.idiv, 0, []), (.iadd, 0, []), (.invokestatic 227, 0, [191, 50, 0, 0, 0, 0]), (.putfield 221, 0, [12, 6, 0]), (.aload_n 0, 0, [0]), (.iload_n 1, 0, [1]), (.iconst 1, 1, []), (.ishr, 0, []), (.iload_n 3, 0, [3]), (.bipush 16, 16, []), (.irem, 0, []), (.sipush 256, 256, []), (.imul, 0, []), (.aload_n 0, 0, [0]), (.iconst 3, 3, []), (.invokevirtual 148, 0, [184, 12, 25, 29, 0, 0, 0]), (.iadd, 0, []), (.invokestatic 227, 0, [191, 50, 0, 0, 0, 0]), (.putfield 224, 0, [12, 7, 0]), (.goto 36, 0, [284])]
def s190_251 : List E := [(.aload_n 0, 0, [0]), (.iload_n 1, 0, [1]), (.iload_n 2, 0, [2]), (.bipush 8, 8, []), (.ishl, 0, []), (.aload_n 0, 0, [0]), (.iconst 3, 3, []), (.invokevirtual 148, 0, [184, 12, 25, 29, 0, 0, 0]), (.ior, 0, []), (.invokestatic 227, 0, [191, 50, 0, 0, 0, 0]), (.putfield 221, 0, [12, 6, 0]), (.aload_n 0, 0, [0]), (.iload_n 1, 0, [1]), (.iconst 1, 1, []), (.ishr, 0, []), (.aload_n 0, 0, [0]), (.iconst 3, 3, []), (.invokevirtual 151, 0, [186, 12, 25, 8, 0, 0, 0]), (.invokestatic 227, 0, [191, 50, 0, 0, 0, 0]), (.putfield 224, 0, [12, 7, 0]), (.nop, 0, [284])]
def s190_284 : List E := [(.return_, 0, [])]
def cd190 : List (Nat × List E) := [(0, s190_0), (37, s190_37), (71, s190_71), (133, s190_133), (195, s190_195), (251, s190_251), (284, s190_284)]
theorem l190_0 : lkc cd190 0 = s190_0 := rfl
theorem l190_37 : lkc cd190 37 = s190_37 := rfl
theorem l190_71 : lkc cd190 71 = s190_71 := rfl
theorem l190_133 : lkc cd190 133 = s190_133 := rfl
theorem l190_195 : lkc cd190 195 = s190_195 := rfl
theorem l190_251 : lkc cd190 251 = s190_251 := rfl
theorem l190_284 : lkc cd190 284 = s190_284 := rfl
theorem k190 : chkM 190 12 true cd190 = true := by decide +kernel
/- Turner.signed(II)I -/
def s191_0 : List E := [(.iload_n 0, 0, [0]), (.iconst 1, 1, []), (.iand, 0, []), (.ifCond .eq 7, 0, [10]), (.iload_n 1, 0, [1]), (.goto 5, 0, [12])]
def s191_10 : List E := [(.iload_n 1, 0, [1]), (.ineg, 0, []), (.nop, 0, [12])]
def s191_12 : List E := [(.ireturn, 0, [])]
def cd191 : List (Nat × List E) := [(0, s191_0), (10, s191_10), (12, s191_12)]
theorem l191_0 : lkc cd191 0 = s191_0 := rfl
theorem l191_10 : lkc cd191 10 = s191_10 := rfl
theorem l191_12 : lkc cd191 12 = s191_12 := rfl
theorem k191 : chkM 191 12 true cd191 = true := by decide +kernel
/- Turner.backCode()Z -/
def s192_0 : List E := [(.aload_n 0, 0, [0]), (.iconst 3, 3, []), (.invokevirtual 205, 0, [189, 12, 25, 8, 0, 0, 0]), (.istore_n 1, 0, [1]), (.aload_n 0, 0, [0]), (.getfield 142, 0, [12, 5, 3]), (.ifCond .eq 32, 0, [42]), (.iload_n 1, 0, [1]), (.sipush 300, 300, []), (.if_icmp .gt 25, 0, [42]), (.iload_n 1, 0, [1]), (.aload_n 0, 0, [0]), (.getfield 11, 1, [12, 0, 91, 1]), (.bipush 6, 6, []), (.aaload, 0, [45, 2]), (.getfield 63, 0, [1, 1, 0]), (.aload_n 0, 0, [0]), (.getfield 17, 2, [12, 1, 81, 1]), (.bipush 6, 6, []), (.iaload, 0, []), (.isub, 0, []), (.if_icmp .le 5, 0, [44]), (.nop, 0, [42])]
def s192_42 : List E := [(.iconst 0, 0, []), (.ireturn, 0, [1])]
def s192_44 : List E := [(.aload_n 0, 0, [0]), (.getfield 34, 6, [12, 4, 23, 1]), (.getfield 106, 13, [11, 15, 3, 1]), (.aload_n 0, 0, [0]), (.getfield 11, 1, [12, 0, 91, 1]), (.bipush 6, 6, []), (.aaload, 0, [45, 2]), (.aload_n 0, 0, [0]), (.getfield 17, 2, [12, 1, 81, 1]), (.bipush 6, 6, []), (.iaload, 0, []), (.iload_n 1, 0, [1]), (.invokevirtual 66, 0, [115, 1, 3, 10, 0, 100, 0, 0, 7]), (.aload_n 0, 0, [0]), (.getfield 17, 2, [12, 1, 81, 1]), (.bipush 6, 6, []), (.dup2, 0, []), (.iaload, 0, []), (.iload_n 1, 0, [1]), (.iadd, 0, []), (.iastore, 0, []), (.iconst 1, 1, []), (.ireturn, 0, [1])]
def cd192 : List (Nat × List E) := [(0, s192_0), (42, s192_42), (44, s192_44)]
theorem l192_0 : lkc cd192 0 = s192_0 := rfl
theorem l192_42 : lkc cd192 42 = s192_42 := rfl
theorem l192_44 : lkc cd192 44 = s192_44 := rfl
theorem k192 : chkM 192 12 true cd192 = true := by decide +kernel
/- Packer.<init>(LFontHouse;)V -/
def s193_0 : List E := [(.aload_n 0, 0, [0]), (.aload_n 1, 0, [1]), (.putfield 3, 0, [13, 5, 6]), (.aload_n 0, 0, [0]), (.invokespecial 9, 0, [29]), (.aload_n 0, 0, [0]), (.new 15, 0, [14, 29, 11]), (.dup, 0, []), (.invokespecial 17, 0, [202, 14, 29, 9, 0, 100]), (.putfield 18, 0, [13, 0, 20]), (.aload_n 0, 0, [0]), (.new 22, 0, [1, 3, 4]), (.dup, 0, []), (.sipush 16000, 16000, []), (.invokespecial 24, 0, [111, 1, 3, 8, 0, 100, 0]), (.putfield 27, 0, [13, 1, 7]), (.aload_n 0, 0, [0]), (.new 22, 0, [1, 3, 4]), (.dup, 0, []), (.sipush 16000, 16000, []), (.invokespecial 24, 0, [111, 1, 3, 8, 0, 100, 0]), (.putfield 31, 0, [13, 2, 7]), (.aload_n 0, 0, [0]), (.new 22, 0, [1, 3, 4]), (.dup, 0, []), (.sipush 16000, 16000, []), (.invokespecial 24, 0, [111, 1, 3, 8, 0, 100, 0]), (.putfield 34, 0, [13, 3, 7]), (.aload_n 0, 0, [0]), (.new 22, 0, [1, 3, 4]), (.dup, 0, []), (.sipush 16000, 16000, []), (.invokespecial 24, 0, [111, 1, 3, 8, 0, 100, 0]), (.putfield 37, 0, [13, 4, 7]), (.return_, 0, [])]
def cd193 : List (Nat × List E) := [(0, s193_0)]
theorem l193_0 : lkc cd193 0 = s193_0 := rfl
theorem k193 : chkM 193 13 false cd193 = true := by decide +kernel
/- Packer.pack(IIZ)Z -/
def s194_0 : List E := [(.aload_n 0, 0, [0]), (.iload_n 1, 0, [1]), (.invokevirtual 218, 0, [195, 13, 27, 261, 0, 3, 0]), (.ifCond .ne 5, 0, [10]), (.iconst 0, 0, []), (.ireturn, 0, [1])]
def s194_10 : List E := [(.aload_n 0, 0, [0]), (.getfield 27, 8, [13, 1, 3, 1]), (.invokevirtual 124, 0, [112, 1, 3, 314, 0, 100]), (.iconst 0, 0, []), (.istore 4, 0, [4]), (.nop, 0, [20])]
def s194_20 : List E := [(.iload 4, 0, [4]), (.aload_n 0, 0, [0]), (.getfield 18, 1, [13, 0, 29, 1]), (.getfield 40, 0, [14, 0, 0]), (.if_icmp .ge 16, 0, [45]), (.aload_n 0, 0, [0]), (.iload 4, 0, [4]), (.iload_n 3, 0, [3]), (.invokevirtual 221, 0, [196, 13, 27, 67, 0, 100, 3, 0]), (.iinc 4 1, 1, [4]), (.goto (-22), 0, [20])]
def s194_45 : List E := [(.aload_n 0, 0, [0]), (.getfield 27, 8, [13, 1, 3, 1]), (.getfield 154, 0, [1, 2, 3]), (.ifCond .ne 25, 0, [77]), (.aload_n 0, 0, [0]), (.getfield 3, -401, [13, 5, 1, 1]), (.getfield 225, 296, [0, 8, 13, 1]), (.aload_n 0, 0, [0]), (.getfield 27, 8, [13, 1, 3, 1]), (.aload_n 0, 0, [0]), (.getfield 31, 10, [13, 2, 3, 1]), (.iload_n 2, 0, [2]), (.invokevirtual 229, 0, [526, 6, 13, 8, 0, 3, 0, 7, 7]), (.ifCond .ne 5, 0, [79]), (.nop, 0, [77])]
def s194_77 : List E := [(.iconst 0, 0, []), (.ireturn, 0, [1])]
def s194_79 : List E := [(.iconst 0, 0, []), (.istore 4, 0, [4]), (.nop, 0, [82])]
def s194_82 : List E := [(.iload_n 1, 0, [1]), (.iload 4, 0, [4]), (.ishr, 0, []), (.iconst 1, 1, []), (.iand, 0, []), (.ifCond .ne 9, 0, [97]), (.iinc 4 1, 1, [4]), (.goto (-12), 0, [82])]
def s194_97 : List E := [(.aload_n 0, 0, [0]), (.getfield 18, 1, [13, 0, 29, 1]), (.aload_n 0, 0, [0]), (.getfield 27, 8, [13, 1, 3, 1]), (.getfield 158, 0, [1, 1, 0]), (.putfield 235, 0, [14, 8, 0]), (.aload_n 0, 0, [0]), (.getfield 18, 1, [13, 0, 29, 1]), (.aload_n 0, 0, [0]), (.getfield 31, 10, [13, 2, 3, 1]), (.getfield 158, 0, [1, 1, 0]), (.putfield 238, 0, [14, 9, 0]), (.aload_n 0, 0, [0]), (.getfield 18, 1, [13, 0, 29, 1]), (.aload_n 0, 0, [0]), (.getfield 3, -401, [13, 5, 1, 1]), (.iload_n 1, 0, [1]), (.invokevirtual 241, 0, [103, 0, 1, 264, 0, 0, 0]), (.i2l, 0, []), (.putfield 244, 0, [14, 10, 5]), (.aload_n 0, 0, [0]), (.getfield 3, -401, [13, 5, 1, 1]), (.getfield 246, 2, [0, 1, 3, 1]), (.invokevirtual 124, 0, [112, 1, 3, 314, 0, 100]), (.aload_n 0, 0, [0]), (.getfield 3, -401, [13, 5, 1, 1]), (.getfield 246, 2, [0, 1, 3, 1]), (.ldc 249, 2001684018, []), (.invokevirtual 199, 0, [120, 1, 3, 271, 0, 100, 0]), (.aload_n 0, 0, [0]), (.getfield 3, -401, [13, 5, 1, 1]), (.getfield 246, 2, [0, 1, 3, 1]), (.aload_n 0, 0, [0]), (.getfield 18, 1, [13, 0, 29, 1]), (.getfield 44, 0, [14, 7, 0]), (.iconst 1, 1, []), (.if_icmp .ne 22, 0, [200]), (.aload_n 0, 0, [0]), (.getfield 3, -401, [13, 5, 1, 1]), (.getfield 47, 7, [0, 6, 5, 1]), (.getfield 51, 2, [2, 1, 93, 1]), (.iload 4, 0, [4]), (.aaload, 0, [46, 6]), (.getfield 215, 0, [3, 1, 0]), (.goto 5, 0, [202])]
def s194_200 : List E := [(.ldc 250, 1953784678, []), (.nop, 0, [202])]
def s194_202 : List E := [(.invokevirtual 199, 0, [120, 1, 3, 271, 0, 100, 0]), (.aload_n 0, 0, [0]), (.getfield 3, -401, [13, 5, 1, 1]), (.getfield 246, 2, [0, 1, 3, 1]), (.iconst 0, 0, []), (.invokevirtual 199, 0, [120, 1, 3, 271, 0, 100, 0]), (.aload_n 0, 0, [0]), (.getfield 3, -401, [13, 5, 1, 1]), (.getfield 246, 2, [0, 1, 3, 1]), (.aload_n 0, 0, [0]), (.getfield 18, 1, [13, 0, 29, 1]), (.getfield 40, 0, [14, 0, 0]), (.invokevirtual 114, 0, [121, 1, 3, 292, 0, 100, 0]), (.aload_n 0, 0, [0]), (.getfield 3, -401, [13, 5, 1, 1]), (.getfield 246, 2, [0, 1, 3, 1]), (.iconst 0, 0, []), (.invokevirtual 114, 0, [121, 1, 3, 292, 0, 100, 0]), (.aload_n 0, 0, [0]), (.getfield 3, -401, [13, 5, 1, 1]), (.getfield 246, 2, [0, 1, 3, 1]), (.aload_n 0, 0, [0]), (.getfield 18, 1, [13, 0, 29, 1]), (.getfield 244, 0, [14, 10, 5]), (.l2i, 0, []), (.invokevirtual 199, 0, [120, 1, 3, 271, 0, 100, 0]), (.aload_n 0, 0, [0]), (.getfield 3, -401, [13, 5, 1, 1]), (.getfield 246, 2, [0, 1, 3, 1]), (.aload_n 0, 0, [0]), (.getfield 31, 10, [13, 2, 3, 1]), (.getfield 158, 0, [1, 1, 0]), (.invokevirtual 199, 0, [120, 1, 3, 271, 0, 100, 0]), (.aload_n 0, 0, [0]), (.getfield 3, -401, [13, 5, 1, 1]), (.getfield 246, 2, [0, 1, 3, 1]), (.ldc 208, 65536, []), (.invokevirtual 199, 0, [120, 1, 3, 271, 0, 100, 0]), (.iconst 0, 0, []), (.istore 5, 0, [5]), (.nop, 0, [294])]
def s194_294 : List E := [(.iload 5, 0, [5]), (.iconst 5, 5, []), (.if_icmp .ge 20, 0, [317]), (.aload_n 0, 0, [0]), (.getfield 3, -401, [13, 5, 1, 1]), (.getfield 246, 2, [0, 1, 3, 1]), (.iconst 0, 0, []), (.invokevirtual 199, 0, [120, 1, 3, 271, 0, 100, 0]), (.iinc 5 1, 1, [5]), (.goto (-20), 0, [294])]
def s194_317 : List E := [(.aload_n 0, 0, [0]), (.aload_n 0, 0, [0]), (.getfield 3, -401, [13, 5, 1, 1]), (.getfield 246, 2, [0, 1, 3, 1]), (.invokevirtual 251, 0, [200, 13, 27, 142, 0, 100, 7]), (.aload_n 0, 0, [0]), (.getfield 18, 1, [13, 0, 29, 1]), (.getfield 44, 0, [14, 7, 0]), (.iconst 1, 1, []), (.if_icmp .le 15, 0, [351]), (.aload_n 0, 0, [0]), (.aload_n 0, 0, [0]), (.getfield 3, -401, [13, 5, 1, 1]), (.getfield 246, 2, [0, 1, 3, 1]), (.iload_n 1, 0, [1]), (.invokevirtual 254, 0, [201, 13, 27, 245, 0, 100, 0, 7]), (.nop, 0, [351])]
def s194_351 : List E := [(.aload_n 0, 0, [0]), (.getfield 3, -401, [13, 5, 1, 1]), (.getfield 246, 2, [0, 1, 3, 1]), (.aload_n 0, 0, [0]), (.getfield 31, 10, [13, 2, 3, 1]), (.iconst 0, 0, []), (.aload_n 0, 0, [0]), (.getfield 31, 10, [13, 2, 3, 1]), (.getfield 158, 0, [1, 1, 0]), (.invokevirtual 179, 0, [115, 1, 3, 251, 0, 100, 0, 0, 7]), (.aload_n 0, 0, [0]), (.getfield 3, -401, [13, 5, 1, 1]), (.getfield 246, 2, [0, 1, 3, 1]), (.invokevirtual 258, 0, [123, 1, 3, 293, 0, 100]), (.aload_n 0, 0, [0]), (.getfield 3, -401, [13, 5, 1, 1]), (.getfield 246, 2, [0, 1, 3, 1]), (.getfield 154, 0, [1, 2, 3]), (.ifCond .eq 5, 0, [398]), (.iconst 0, 0, []), (.ireturn, 0, [1])]
def s194_398 : List E := [(.aload_n 0, 0, [0]), (.getfield 3, -401, [13, 5, 1, 1]), (.getfield 246, 2, [0, 1, 3, 1]), (.bipush 8, 8, []), (.aload_n 0, 0, [0]), (.getfield 3, -401, [13, 5, 1, 1]), (.getfield 246, 2, [0, 1, 3, 1]), (.getfield 158, 0, [1, 1, 0]), (.invokevirtual 261, 0, [124, 1, 3, 290, 0, 100, 0, 0]), (.iconst 1, 1, []), (.ireturn, 0, [1])]
def cd194 : List (Nat × List E) := [(0, s194_0), (10, s194_10), (20, s194_20), (45, s194_45), (77, s194_77), (79, s194_79), (82, s194_82), (97, s194_97), (200, s194_200), (202, s194_202), (294, s194_294), (317, s194_317), (351, s194_351), (398, s194_398)]
theorem l194_0 : lkc cd194 0 = s194_0 := rfl
theorem l194_10 : lkc cd194 10 = s194_10 := rfl
theorem l194_20 : lkc cd194 20 = s194_20 := rfl
theorem l194_45 : lkc cd194 45 = s194_45 := rfl
theorem l194_77 : lkc cd194 77 = s194_77 := rfl
theorem l194_79 : lkc cd194 79 = s194_79 := rfl
theorem l194_82 : lkc cd194 82 = s194_82 := rfl
theorem l194_97 : lkc cd194 97 = s194_97 := rfl
theorem l194_200 : lkc cd194 200 = s194_200 := rfl
theorem l194_202 : lkc cd194 202 = s194_202 := rfl
theorem l194_294 : lkc cd194 294 = s194_294 := rfl
theorem l194_317 : lkc cd194 317 = s194_317 := rfl
theorem l194_351 : lkc cd194 351 = s194_351 := rfl
theorem l194_398 : lkc cd194 398 = s194_398 := rfl
theorem k194 : chkM 194 13 true cd194 = true := by decide +kernel
/- Packer.collect(I)Z -/
def s195_0 : List E := [(.aload_n 0, 0, [0]), (.getfield 18, 1, [13, 0, 29, 1]), (.iconst 0, 0, []), (.putfield 40, 0, [14, 0, 0]), (.aload_n 0, 0, [0]), (.getfield 18, 1, [13, 0, 29, 1]), (.iconst 0, 0, []), (.putfield 44, 0, [14, 7, 0]), (.iconst 0, 0, []), (.istore_n 2, 0, [2]), (.nop, 0, [18])]
def s195_18 : List E := [(.iload_n 2, 0, [2]), (.iconst 4, 4, []), (.if_icmp .ge 171, 0, [191]), (.iload_n 1, 0, [1]), (.iload_n 2, 0, [2]), (.ishr, 0, []), (.iconst 1, 1, []), (.iand, 0, []), (.ifCond .ne 6, 0, [34]), (.goto 154, 0, [185])]
def s195_34 : List E := [(.aload_n 0, 0, [0]), (.getfield 3, -401, [13, 5, 1, 1]), (.getfield 47, 7, [0, 6, 5, 1]), (.getfield 51, 2, [2, 1, 93, 1]), (.iload_n 2, 0, [2]), (.aaload, 0, [46, 6]), (.astore_n 3, 0, [3]), (.iconst 0, 0, []), (.istore 4, 0, [4]), (.nop, 0, [50])]
def s195_50 : List E := [(.iload 4, 0, [4]), (.aload_n 3, 0, [3]), (.getfield 57, 0, [3, 2, 0]), (.if_icmp .ge 116, 0, [172]), (.aload_n 3, 0, [3]), (.getfield 60, 1, [3, 3, 87, 1]), (.iload 4, 0, [4]), (.laload, 0, []), (.lstore 5, 0, [5]), (.aload_n 3, 0, [3]), (.getstatic 64, 1819239265, [4]), (.invokevirtual 68, 0, [487, 3, 7, 8, 0, 7, 5]), (.astore 7, 0, [7]), (.lload 5, 0, [5]), (.getstatic 72, 1146308935, [6]), (.lcmp, 0, []), (.ifCond .eq 83, 0, [166]), (.lload 5, 0, [5]), (.getstatic 64, 1819239265, [4]), (.lcmp, 0, []), (.ifCond .eq 74, 0, [166]), (.aload_n 0, 0, [0]), (.getfield 18, 1, [13, 0, 29, 1]), (.lload 5, 0, [5]), (.aload_n 3, 0, [3]), (.getfield 75, 2, [3, 4, 91, 1]), (.iload 4, 0, [4]), (.aaload, 0, [45, 2]), (.aload 7, 0, [7]), (.invokevirtual 79, 0, [203, 14, 29, 29, 0, 0, 7, 7, 5]), (.ifCond .lt 6, 0, [119]), (.goto 50, 0, [166])]
def s195_119 : List E := [(.aload_n 0, 0, [0]), (.getfield 18, 1, [13, 0, 29, 1]), (.lload 5, 0, [5]), (.aload_n 3, 0, [3]), (.getfield 75, 2, [3, 4, 91, 1]), (.iload 4, 0, [4]), (.aaload, 0, [45, 2]), (.iload_n 2, 0, [2]), (.invokevirtual 83, 0, [204, 14, 29, 30, 0, 3, 0, 7, 5]), (.ifCond .eq 28, 0, [164]), (.lload 5, 0, [5]), (.getstatic 87, 1735162214, [5]), (.lcmp, 0, []), (.ifCond .ne 21, 0, [166]), (.aload_n 0, 0, [0]), (.getfield 18, 1, [13, 0, 29, 1]), (.getstatic 64, 1819239265, [4]), (.aload 7, 0, [7]), (.iload_n 2, 0, [2]), (.invokevirtual 83, 0, [204, 14, 29, 30, 0, 3, 0, 7, 5]), (.ifCond .ne 5, 0, [166]), (.nop, 0, [164])]
def s195_164 : List E := [(.iconst 0, 0, []), (.ireturn, 0, [1])]
def s195_166 : List E := [(.iinc 4 1, 1, [4]), (.goto (-119), 0, [50])]
def s195_172 : List E := [(.aload_n 0, 0, [0]), (.getfield 18, 1, [13, 0, 29, 1]), (.dup, 0, []), (.getfield 44, 0, [14, 7, 0]), (.iconst 1, 1, []), (.iadd, 0, []), (.putfield 44, 0, [14, 7, 0]), (.nop, 0, [185])]
def s195_185 : List E := [(.iinc 2 1, 1, [2]), (.goto (-170), 0, [18])]
def s195_191 : List E := [(.iconst 1, 1, []), (.ireturn, 0, [1])]
def cd195 : List (Nat × List E) := [(0, s195_0), (18, s195_18), (34, s195_34), (50, s195_50), (119, s195_119), (164, s195_164), (166, s195_166), (172, s195_172), (185, s195_185), (191, s195_191)]
theorem l195_0 : lkc cd195 0 = s195_0 := rfl
theorem l195_18 : lkc cd195 18 = s195_18 := rfl
theorem l195_34 : lkc cd195 34 = s195_34 := rfl
theorem l195_50 : lkc cd195 50 = s195_50 := rfl
theorem l195_119 : lkc cd195 119 = s195_119 := rfl
theorem l195_164 : lkc cd195 164 = s195_164 := rfl
theorem l195_166 : lkc cd195 166 = s195_166 := rfl
theorem l195_172 : lkc cd195 172 = s195_172 := rfl
theorem l195_185 : lkc cd195 185 = s195_185 := rfl
theorem l195_191 : lkc cd195 191 = s195_191 := rfl
theorem k195 : chkM 195 13 true cd195 = true := by decide +kernel
