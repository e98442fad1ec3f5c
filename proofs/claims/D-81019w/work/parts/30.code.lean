set_option maxRecDepth 100000
/- FontHouse.<init>()V -/
def s35_0 : List E := [(.aload_n 0, 0, [0]), (.invokespecial 131, 0, [87]), (.aload_n 0, 0, [0]), (.bipush 16, 16, []), (.newarray .int, 0, [40, 81]), (.putfield 62, 0, [0, 0, 46]), (.aload_n 0, 0, [0]), (.new 24, 0, [1, 3, 4]), (.dup, 0, []), (.sipush 16000, 16000, []), (.invokespecial 136, 0, [111, 1, 3, 66, 0, 100, 0]), (.putfield 54, 0, [0, 1, 7]), (.aload_n 0, 0, [0]), (.bipush 64, 64, []), (.anewarray 24, 0, [45, 91]), (.putfield 93, 0, [0, 2, 51]), (.aload_n 0, 0, [0]), (.bipush 64, 64, []), (.newarray .int, 0, [40, 81]), (.putfield 96, 0, [0, 3, 46]), (.aload_n 0, 0, [0]), (.iconst 4, 4, []), (.anewarray 24, 0, [45, 91]), (.putfield 138, 0, [0, 5, 51]), (.aload_n 0, 0, [0]), (.new 104, 0, [2, 5, 5]), (.dup, 0, []), (.invokespecial 141, 0, [472, 2, 5, 45, 0, 100]), (.putfield 99, 0, [0, 6, 8]), (.aload_n 0, 0, [0]), (.new 142, 0, [4, 9, 31]), (.dup, 0, []), (.invokespecial 144, 0, [489, 4, 9, 8, 0, 100]), (.putfield 145, 0, [0, 7, 10]), (.aload_n 0, 0, [0]), (.new 149, 0, [6, 13, 21]), (.dup, 0, []), (.invokespecial 151, 0, [525, 6, 13, 8, 0, 100]), (.putfield 152, 0, [0, 8, 12]), (.aload_n 0, 0, [0]), (.new 156, 0, [9, 19, 9]), (.dup, 0, []), (.aload_n 0, 0, [0]), (.invokespecial 158, 0, [129, 9, 19, 66, 0, 100, 6]), (.putfield 161, 0, [0, 9, 15]), (.aload_n 0, 0, [0]), (.new 165, 0, [10, 21, 11]), (.dup, 0, []), (.invokespecial 167, 0, [144, 10, 21, 26, 0, 100]), (.putfield 168, 0, [0, 10, 16]), (.aload_n 0, 0, [0]), (.new 172, 0, [12, 25, 8]), (.dup, 0, []), (.invokespecial 174, 0, [177, 12, 25, 25, 0, 100]), (.putfield 175, 0, [0, 11, 18]), (.aload_n 0, 0, [0]), (.new 179, 0, [13, 27, 6]), (.dup, 0, []), (.aload_n 0, 0, [0]), (.invokespecial 181, 0, [193, 13, 27, 45, 0, 100, 6]), (.putfield 182, 0, [0, 12, 19]), (.aload_n 0, 0, [0]), (.new 186, 0, [15, 31, 11]), (.dup, 0, []), (.aload_n 0, 0, [0]), (.invokespecial 188, 0, [207, 15, 31, 45, 0, 100, 6]), (.putfield 189, 0, [0, 13, 21]), (.aload_n 0, 0, [0]), (.new 193, 0, [14, 29, 11]), (.dup, 0, []), (.invokespecial 195, 0, [202, 14, 29, 67, 0, 100]), (.putfield 196, 0, [0, 14, 20]), (.aload_n 0, 0, [0]), (.iconst (-1), -1, []), (.putfield 200, 0, [0, 15, 0]), (.aload_n 0, 0, [0]), (.new 203, 0, [11, 23, 20]), (.dup, 0, []), (.invokespecial 205, 0, [155, 11, 23, 46, 0, 100]), (.putfield 206, 0, [0, 16, 17]), (.aload_n 0, 0, [0]), (.new 203, 0, [11, 23, 20]), (.dup, 0, []), (.invokespecial 205, 0, [155, 11, 23, 46, 0, 100]), (.putfield 210, 0, [0, 17, 17]), (.aload_n 0, 0, [0]), (.iconst 4, 4, []), (.newarray .int, 0, [40, 81]), (.putfield 213, 0, [0, 19, 46]), (.iconst 0, 0, []), (.istore_n 1, 0, [1]), (.nop, 0, [189])]
def s35_189 : List E := [(.iload_n 1, 0, [1]), (.iconst 4, 4, []), (.if_icmp .ge 25, 0, [216]), (.aload_n 0, 0, [0]), (.getfield 138, 0, [0, 5, 51]), (.iload_n 1, 0, [1]), (.new 24, 0, [1, 3, 4]), (.dup, 0, []), (.sipush 16000, 16000, []), (.invokespecial 136, 0, [111, 1, 3, 66, 0, 100, 0]), (.aastore, 0, [45, 1]), (.iinc 1 1, 1, [1]), (.goto (-24), 0, [189])]
def s35_216 : List E := [(.aload_n 0, 0, [0]), (.getfield 206, 0, [0, 16, 17]), (.invokevirtual 216, 0, [156, 11, 23, 66, 0, 100]), (.aload_n 0, 0, [0]), (.getfield 210, 0, [0, 17, 17]), (.invokevirtual 216, 0, [156, 11, 23, 66, 0, 100]), (.return_, 0, [])]
def cd35 : List (Nat × List E) := [(0, s35_0), (189, s35_189), (216, s35_216)]
theorem l35_0 : lkc cd35 0 = s35_0 := rfl
theorem l35_189 : lkc cd35 189 = s35_189 := rfl
theorem l35_216 : lkc cd35 216 = s35_216 := rfl
theorem k35 : chkM 35 0 false cd35 = true := by decide +kernel
/- FontHouse.put(IJI)I -/
def s36_0 : List E := [(.iload_n 1, 0, [1]), (.invokestatic 234, 0, [37, 8, 0, 3, 0]), (.ifCond .ne 5, 0, [9]), (.iconst (-1), -1, []), (.ireturn, 0, [])]
def s36_9 : List E := [(.iload 4, 0, [4]), (.i2l, 0, []), (.lconst 0, 0, []), (.ldc2_w 238, 8, []), (.invokestatic 219, 0, [38, 28, 0, 3, 5, 5, 5]), (.ifCond .ne 6, 0, [25]), (.bipush (-2), -2, []), (.ireturn, 0, [])]
def s36_25 : List E := [(.aload_n 0, 0, [0]), (.getfield 138, 6, [0, 5, 91, 1]), (.iload_n 1, 0, [1]), (.aaload, 0, [45, 2]), (.astore 5, 0, [5]), (.iload 4, 0, [4]), (.ifCond .ne 8, 0, [43]), (.aload 5, 0, [5]), (.invokevirtual 58, 0, [112, 1, 3, 33, 0, 100]), (.nop, 0, [43])]
def s36_43 : List E := [(.iload 4, 0, [4]), (.sipush 16000, 16000, []), (.aload 5, 0, [5]), (.getfield 43, 0, [1, 1, 0]), (.isub, 0, []), (.if_icmp .le 6, 0, [60]), (.bipush (-4), -4, []), (.ireturn, 0, [])]
def s36_60 : List E := [(.iload 4, 0, [4]), (.iconst 1, 1, []), (.isub, 0, []), (.istore 6, 0, [6]), (.nop, 0, [66])]
def s36_66 : List E := [(.iload 6, 0, [6]), (.ifCond .lt 22, 0, [90]), (.aload 5, 0, [5]), (.lload_n 2, 0, [2]), (.bipush 8, 8, []), (.iload 6, 0, [6]), (.imul, 0, []), (.lushr, 0, []), (.l2i, 0, []), (.invokevirtual 240, 0, [113, 1, 3, 32, 0, 100, 0]), (.iinc 6 (-1), -1, [6]), (.goto (-21), 0, [66])]
def s36_90 : List E := [(.aload 5, 0, [5]), (.getfield 43, 0, [1, 1, 0]), (.ireturn, 0, [])]
def cd36 : List (Nat × List E) := [(0, s36_0), (9, s36_9), (25, s36_25), (43, s36_43), (60, s36_60), (66, s36_66), (90, s36_90)]
theorem l36_0 : lkc cd36 0 = s36_0 := rfl
theorem l36_9 : lkc cd36 9 = s36_9 := rfl
theorem l36_25 : lkc cd36 25 = s36_25 := rfl
theorem l36_43 : lkc cd36 43 = s36_43 := rfl
theorem l36_60 : lkc cd36 60 = s36_60 := rfl
theorem l36_66 : lkc cd36 66 = s36_66 := rfl
theorem l36_90 : lkc cd36 90 = s36_90 := rfl
theorem k36 : chkM 36 0 true cd36 = true := by decide +kernel
/- FontHouse.isRow(I)Z -/
def s37_0 : List E := [(.iload_n 0, 0, [0]), (.i2l, 0, []), (.lconst 0, 0, []), (.ldc2_w 217, 3, []), (.invokestatic 219, 0, [38, 8, 0, 3, 5, 5, 5]), (.ireturn, 0, [1])]
def cd37 : List (Nat × List E) := [(0, s37_0)]
theorem l37_0 : lkc cd37 0 = s37_0 := rfl
theorem k37 : chkM 37 0 true cd37 = true := by decide +kernel
/- FontHouse.isIn(JJJ)Z -/
def s38_0 : List E := [(.lload_n 0, 0, [0]), (.lload_n 2, 0, [2]), (.lcmp, 0, []), (.ifCond .lt 14, 0, [17]), (.lload_n 0, 0, [0]), (.lload 4, 0, [4]), (.lcmp, 0, []), (.ifCond .gt 7, 0, [17]), (.iconst 1, 1, []), (.goto 4, 0, [18])]
def s38_17 : List E := [(.iconst 0, 0, []), (.nop, 0, [18])]
def s38_18 : List E := [(.ireturn, 0, [1])]
def cd38 : List (Nat × List E) := [(0, s38_0), (17, s38_17), (18, s38_18)]
theorem l38_0 : lkc cd38 0 = s38_0 := rfl
theorem l38_17 : lkc cd38 17 = s38_17 := rfl
theorem l38_18 : lkc cd38 18 = s38_18 := rfl
theorem k38 : chkM 38 0 true cd38 = true := by decide +kernel
/- FontHouse.fill(IIII)I -/
def s39_0 : List E := [(.iload_n 1, 0, [1]), (.invokestatic 234, 0, [37, 8, 0, 3, 0]), (.ifCond .ne 5, 0, [9]), (.iconst (-1), -1, []), (.ireturn, 0, [])]
def s39_9 : List E := [(.iload_n 2, 0, [2]), (.ifCond .lt 16, 0, [26]), (.iload 4, 0, [4]), (.i2l, 0, []), (.lconst 0, 0, []), (.ldc2_w 243, 7, []), (.invokestatic 219, 0, [38, 28, 0, 3, 5, 5, 5]), (.ifCond .ne 6, 0, [29]), (.nop, 0, [26])]
def s39_26 : List E := [(.bipush (-2), -2, []), (.ireturn, 0, [])]
def s39_29 : List E := [(.aload_n 0, 0, [0]), (.getfield 138, 6, [0, 5, 91, 1]), (.iload_n 1, 0, [1]), (.aaload, 0, [45, 2]), (.astore 5, 0, [5]), (.iload_n 2, 0, [2]), (.sipush 16000, 16000, []), (.aload 5, 0, [5]), (.getfield 43, 0, [1, 1, 0]), (.isub, 0, []), (.if_icmp .le 6, 0, [53]), (.bipush (-4), -4, []), (.ireturn, 0, [])]
def s39_53 : List E := [(.iload_n 3, 0, [3]), (.istore 6, 0, [6]), (.iconst 0, 0, []), (.istore 7, 0, [7]), (.nop, 0, [59])]
def s39_59 : List E := [(.iload 7, 0, [7]), (.iload_n 2, 0, [2]), (.if_icmp .ge 32, 0, [94]), (.iload 6, 0, [6]), (.ldc 245, 1664525, []), (.imul, 0, [1]), (.ldc 246, 1013904223, []), (.iadd, 0, [1]), (.istore 6, 0, [6]), (.aload 5, 0, [5]), (.iload 6, 0, [6]), (.bipush 24, 24, []), (.iushr, 0, []), (.iload 4, 0, [4]), (.iushr, 0, []), (.invokevirtual 240, 0, [113, 1, 3, 32, 0, 100, 0]), (.iinc 7 1, 1, [7]), (.goto (-32), 0, [59])]
def s39_94 : List E := [(.aload 5, 0, [5]), (.getfield 43, 0, [1, 1, 0]), (.ireturn, 0, [])]
def cd39 : List (Nat × List E) := [(0, s39_0), (9, s39_9), (26, s39_26), (29, s39_29), (53, s39_53), (59, s39_59), (94, s39_94)]
theorem l39_0 : lkc cd39 0 = s39_0 := rfl
theorem l39_9 : lkc cd39 9 = s39_9 := rfl
theorem l39_26 : lkc cd39 26 = s39_26 := rfl
theorem l39_29 : lkc cd39 29 = s39_29 := rfl
theorem l39_53 : lkc cd39 53 = s39_53 := rfl
theorem l39_59 : lkc cd39 59 = s39_59 := rfl
theorem l39_94 : lkc cd39 94 = s39_94 := rfl
theorem k39 : chkM 39 0 true cd39 = true := by decide +kernel
/- FontHouse.size(I)I -/
def s40_0 : List E := [(.iload_n 1, 0, [1]), (.invokestatic 234, 0, [37, 8, 0, 3, 0]), (.ifCond .eq 15, 0, [19]), (.aload_n 0, 0, [0]), (.getfield 138, 6, [0, 5, 91, 1]), (.iload_n 1, 0, [1]), (.aaload, 0, [45, 2]), (.getfield 43, 0, [1, 1, 0]), (.goto 4, 0, [20])]
def s40_19 : List E := [(.iconst (-1), -1, []), (.nop, 0, [20])]
def s40_20 : List E := [(.ireturn, 0, [])]
def cd40 : List (Nat × List E) := [(0, s40_0), (19, s40_19), (20, s40_20)]
theorem l40_0 : lkc cd40 0 = s40_0 := rfl
theorem l40_19 : lkc cd40 19 = s40_19 := rfl
theorem l40_20 : lkc cd40 20 = s40_20 := rfl
theorem k40 : chkM 40 0 true cd40 = true := by decide +kernel
/- FontHouse.at(II)I -/
def s41_0 : List E := [(.iload_n 1, 0, [1]), (.invokestatic 234, 0, [37, 8, 0, 3, 0]), (.ifCond .ne 7, 0, [11]), (.iconst (-1), -1, []), (.goto 39, 0, [47])]
def s41_11 : List E := [(.iload_n 2, 0, [2]), (.i2l, 0, []), (.lconst 0, 0, []), (.aload_n 0, 0, [0]), (.getfield 138, 6, [0, 5, 91, 1]), (.iload_n 1, 0, [1]), (.aaload, 0, [45, 2]), (.getfield 43, 0, [1, 1, 0]), (.iconst 1, 1, []), (.isub, 0, []), (.i2l, 0, []), (.invokestatic 219, 0, [38, 28, 0, 3, 5, 5, 5]), (.ifCond .eq 16, 0, [45]), (.aload_n 0, 0, [0]), (.getfield 138, 6, [0, 5, 91, 1]), (.iload_n 1, 0, [1]), (.aaload, 0, [45, 2]), (.iload_n 2, 0, [2]), (.invokevirtual 247, 0, [114, 1, 3, 32, 0, 0, 0]), (.goto 5, 0, [47])]
def s41_45 : List E := [(.bipush (-2), -2, []), (.nop, 0, [47])]
def s41_47 : List E := [(.ireturn, 0, [])]
def cd41 : List (Nat × List E) := [(0, s41_0), (11, s41_11), (45, s41_45), (47, s41_47)]
theorem l41_0 : lkc cd41 0 = s41_0 := rfl
theorem l41_11 : lkc cd41 11 = s41_11 := rfl
theorem l41_45 : lkc cd41 45 = s41_45 := rfl
theorem l41_47 : lkc cd41 47 = s41_47 := rfl
theorem k41 : chkM 41 0 true cd41 = true := by decide +kernel
/- FontHouse.set(III)I -/
def s42_0 : List E := [(.iload_n 1, 0, [1]), (.invokestatic 234, 0, [37, 8, 0, 3, 0]), (.ifCond .ne 5, 0, [9]), (.iconst (-1), -1, []), (.ireturn, 0, [])]
def s42_9 : List E := [(.iload_n 2, 0, [2]), (.i2l, 0, []), (.lconst 0, 0, []), (.aload_n 0, 0, [0]), (.getfield 138, 6, [0, 5, 91, 1]), (.iload_n 1, 0, [1]), (.aaload, 0, [45, 2]), (.getfield 43, 0, [1, 1, 0]), (.iconst 1, 1, []), (.isub, 0, []), (.i2l, 0, []), (.invokestatic 219, 0, [38, 28, 0, 3, 5, 5, 5]), (.ifCond .eq 15, 0, [42]), (.iload_n 3, 0, [3]), (.i2l, 0, []), (.lconst 0, 0, []), (.ldc2_w 250, 255, []), (.invokestatic 219, 0, [38, 28, 0, 3, 5, 5, 5]), (.ifCond .ne 6, 0, [45]), (.nop, 0, [42])]
def s42_42 : List E := [(.bipush (-2), -2, []), (.ireturn, 0, [])]
def s42_45 : List E := [(.aload_n 0, 0, [0]), (.getfield 138, 6, [0, 5, 91, 1]), (.iload_n 1, 0, [1]), (.aaload, 0, [45, 2]), (.iload_n 2, 0, [2]), (.invokevirtual 247, 0, [114, 1, 3, 32, 0, 0, 0]), (.istore 4, 0, [4]), (.aload_n 0, 0, [0]), (.getfield 138, 6, [0, 5, 91, 1]), (.iload_n 1, 0, [1]), (.aaload, 0, [45, 2]), (.getfield 252, 1, [1, 0, 83, 1]), (.iload_n 2, 0, [2]), (.iload_n 3, 0, [3]), (.i2b, 0, []), (.bastore, 0, [41]), (.iload 4, 0, [4]), (.ireturn, 0, [])]
def cd42 : List (Nat × List E) := [(0, s42_0), (9, s42_9), (42, s42_42), (45, s42_45)]
theorem l42_0 : lkc cd42 0 = s42_0 := rfl
theorem l42_9 : lkc cd42 9 = s42_9 := rfl
theorem l42_42 : lkc cd42 42 = s42_42 := rfl
theorem l42_45 : lkc cd42 45 = s42_45 := rfl
theorem k42 : chkM 42 0 true cd42 = true := by decide +kernel
/- FontHouse.cut(II)I -/
def s43_0 : List E := [(.iload_n 1, 0, [1]), (.invokestatic 234, 0, [37, 8, 0, 3, 0]), (.ifCond .ne 5, 0, [9]), (.iconst (-1), -1, []), (.ireturn, 0, [])]
def s43_9 : List E := [(.aload_n 0, 0, [0]), (.getfield 138, 6, [0, 5, 91, 1]), (.iload_n 1, 0, [1]), (.aaload, 0, [45, 2]), (.getfield 43, 0, [1, 1, 0]), (.istore_n 3, 0, [3]), (.iload_n 2, 0, [2]), (.i2l, 0, []), (.lconst 0, 0, []), (.iload_n 3, 0, [3]), (.i2l, 0, []), (.invokestatic 219, 0, [38, 28, 0, 3, 5, 5, 5]), (.ifCond .ne 6, 0, [33]), (.bipush (-2), -2, []), (.ireturn, 0, [])]
def s43_33 : List E := [(.aload_n 0, 0, [0]), (.getfield 138, 6, [0, 5, 91, 1]), (.iload_n 1, 0, [1]), (.aaload, 0, [45, 2]), (.iload_n 2, 0, [2]), (.putfield 43, 0, [1, 1, 0]), (.iload_n 3, 0, [3]), (.ireturn, 0, [])]
def cd43 : List (Nat × List E) := [(0, s43_0), (9, s43_9), (33, s43_33)]
theorem l43_0 : lkc cd43 0 = s43_0 := rfl
theorem l43_9 : lkc cd43 9 = s43_9 := rfl
theorem l43_33 : lkc cd43 33 = s43_33 := rfl
theorem k43 : chkM 43 0 true cd43 = true := by decide +kernel
/- FontHouse.copy(IIII)I -/
def s44_0 : List E := [(.iload_n 1, 0, [1]), (.invokestatic 234, 0, [37, 46, 0, 3, 0]), (.ifCond .eq 11, 0, [15]), (.iload 4, 0, [4]), (.invokestatic 234, 0, [37, 46, 0, 3, 0]), (.ifCond .ne 5, 0, [17]), (.nop, 0, [15])]
def s44_15 : List E := [(.iconst (-1), -1, []), (.ireturn, 0, [])]
def s44_17 : List E := [(.iload_n 2, 0, [2]), (.ifCond .lt 35, 0, [53]), (.iload_n 3, 0, [3]), (.ifCond .lt 31, 0, [53]), (.iload_n 2, 0, [2]), (.aload_n 0, 0, [0]), (.getfield 138, 6, [0, 5, 91, 1]), (.iload_n 1, 0, [1]), (.aaload, 0, [45, 2]), (.getfield 43, 0, [1, 1, 0]), (.if_icmp .gt 18, 0, [53]), (.iload_n 3, 0, [3]), (.aload_n 0, 0, [0]), (.getfield 138, 6, [0, 5, 91, 1]), (.iload_n 1, 0, [1]), (.aaload, 0, [45, 2]), (.getfield 43, 0, [1, 1, 0]), (.iload_n 2, 0, [2]), (.isub, 0, []), (.if_icmp .le 6, 0, [56]), (.nop, 0, [53])]
def s44_53 : List E := [(.bipush (-2), -2, []), (.ireturn, 0, [])]
def s44_56 : List E := [(.iload_n 3, 0, [3]), (.sipush 16000, 16000, []), (.aload_n 0, 0, [0]), (.getfield 138, 6, [0, 5, 91, 1]), (.iload 4, 0, [4]), (.aaload, 0, [45, 2]), (.getfield 43, 0, [1, 1, 0]), (.isub, 0, []), (.if_icmp .le 6, 0, [77]), (.bipush (-4), -4, []), (.ireturn, 0, [])]
def s44_77 : List E := [(.aload_n 0, 0, [0]), (.getfield 138, 6, [0, 5, 91, 1]), (.iload 4, 0, [4]), (.aaload, 0, [45, 2]), (.aload_n 0, 0, [0]), (.getfield 138, 6, [0, 5, 91, 1]), (.iload_n 1, 0, [1]), (.aaload, 0, [45, 2]), (.iload_n 2, 0, [2]), (.iload_n 3, 0, [3]), (.invokevirtual 74, 0, [115, 1, 3, 8, 0, 100, 0, 0, 7]), (.aload_n 0, 0, [0]), (.getfield 138, 6, [0, 5, 91, 1]), (.iload 4, 0, [4]), (.aaload, 0, [45, 2]), (.getfield 43, 0, [1, 1, 0]), (.ireturn, 0, [])]
def cd44 : List (Nat × List E) := [(0, s44_0), (15, s44_15), (17, s44_17), (53, s44_53), (56, s44_56), (77, s44_77)]
theorem l44_0 : lkc cd44 0 = s44_0 := rfl
theorem l44_15 : lkc cd44 15 = s44_15 := rfl
theorem l44_17 : lkc cd44 17 = s44_17 := rfl
theorem l44_53 : lkc cd44 53 = s44_53 := rfl
theorem l44_56 : lkc cd44 56 = s44_56 := rfl
theorem l44_77 : lkc cd44 77 = s44_77 := rfl
theorem k44 : chkM 44 0 true cd44 = true := by decide +kernel
/- FontHouse.differ(II)I -/
def s45_0 : List E := [(.iload_n 1, 0, [1]), (.invokestatic 234, 0, [37, 8, 0, 3, 0]), (.ifCond .eq 10, 0, [14]), (.iload_n 2, 0, [2]), (.invokestatic 234, 0, [37, 8, 0, 3, 0]), (.ifCond .ne 5, 0, [16]), (.nop, 0, [14])]
def s45_14 : List E := [(.iconst (-1), -1, []), (.ireturn, 0, [])]
def s45_16 : List E := [(.aload_n 0, 0, [0]), (.getfield 138, 6, [0, 5, 91, 1]), (.iload_n 1, 0, [1]), (.aaload, 0, [45, 2]), (.astore_n 3, 0, [3]), (.aload_n 0, 0, [0]), (.getfield 138, 6, [0, 5, 91, 1]), (.iload_n 2, 0, [2]), (.aaload, 0, [45, 2]), (.astore 4, 0, [4]), (.iconst 0, 0, []), (.istore 5, 0, [5]), (.nop, 0, [34])]
def s45_34 : List E := [(.iload 5, 0, [5]), (.aload_n 3, 0, [3]), (.getfield 43, 0, [1, 1, 0]), (.if_icmp .ge 35, 0, [75]), (.iload 5, 0, [5]), (.aload 4, 0, [4]), (.getfield 43, 0, [1, 1, 0]), (.if_icmp .ge 25, 0, [75]), (.aload_n 3, 0, [3]), (.iload 5, 0, [5]), (.invokevirtual 247, 0, [114, 1, 3, 32, 0, 0, 0]), (.aload 4, 0, [4]), (.iload 5, 0, [5]), (.invokevirtual 247, 0, [114, 1, 3, 32, 0, 0, 0]), (.if_icmp .ne 9, 0, [75]), (.iinc 5 1, 1, [5]), (.goto (-38), 0, [34])]
def s45_75 : List E := [(.iload 5, 0, [5]), (.aload_n 3, 0, [3]), (.getfield 43, 0, [1, 1, 0]), (.if_icmp .ne 18, 0, [99]), (.iload 5, 0, [5]), (.aload 4, 0, [4]), (.getfield 43, 0, [1, 1, 0]), (.if_icmp .ne 8, 0, [99]), (.bipush (-3), -3, []), (.goto 5, 0, [101])]
def s45_99 : List E := [(.iload 5, 0, [5]), (.nop, 0, [101])]
def s45_101 : List E := [(.ireturn, 0, [])]
def cd45 : List (Nat × List E) := [(0, s45_0), (14, s45_14), (16, s45_16), (34, s45_34), (75, s45_75), (99, s45_99), (101, s45_101)]
theorem l45_0 : lkc cd45 0 = s45_0 := rfl
theorem l45_14 : lkc cd45 14 = s45_14 := rfl
theorem l45_16 : lkc cd45 16 = s45_16 := rfl
theorem l45_34 : lkc cd45 34 = s45_34 := rfl
theorem l45_75 : lkc cd45 75 = s45_75 := rfl
theorem l45_99 : lkc cd45 99 = s45_99 := rfl
theorem l45_101 : lkc cd45 101 = s45_101 := rfl
theorem k45 : chkM 45 0 true cd45 = true := by decide +kernel
/- FontHouse.sum(I)J -/
def s46_0 : List E := [(.iload_n 1, 0, [1]), (.invokestatic 234, 0, [37, 9, 0, 3, 0]), (.ifCond .eq 32, 0, [36]), (.aload_n 0, 0, [0]), (.getfield 138, 6, [0, 5, 91, 1]), (.iload_n 1, 0, [1]), (.aaload, 0, [45, 2]), (.iconst 0, 0, []), (.aload_n 0, 0, [0]), (.getfield 138, 6, [0, 5, 91, 1]), (.iload_n 1, 0, [1]), (.aaload, 0, [45, 2]), (.getfield 43, 0, [1, 1, 0]), (.bipush (-4), -4, []), (.invokevirtual 50, 0, [116, 1, 3, 8, 0, 0, 0, 0, 0]), (.i2l, 0, []), (.ldc2_w 226, 4294967295, []), (.land, 0, []), (.goto 6, 0, [39])]
def s46_36 : List E := [(.ldc2_w 256, -1, []), (.nop, 0, [39])]
def s46_39 : List E := [(.lreturn, 0, [])]
def cd46 : List (Nat × List E) := [(0, s46_0), (36, s46_36), (39, s46_39)]
theorem l46_0 : lkc cd46 0 = s46_0 := rfl
theorem l46_36 : lkc cd46 36 = s46_36 := rfl
theorem l46_39 : lkc cd46 39 = s46_39 := rfl
theorem k46 : chkM 46 0 true cd46 = true := by decide +kernel
/- FontHouse.squeeze(III)I -/
def s47_0 : List E := [(.iload_n 1, 0, [1]), (.invokestatic 234, 0, [37, 289, 0, 3, 0]), (.ifCond .eq 10, 0, [14]), (.iload_n 2, 0, [2]), (.invokestatic 234, 0, [37, 289, 0, 3, 0]), (.ifCond .ne 5, 0, [16]), (.nop, 0, [14])]
def s47_14 : List E := [(.iconst (-1), -1, []), (.ireturn, 0, [])]
def s47_16 : List E := [(.iload_n 3, 0, [3]), (.i2l, 0, []), (.lconst 0, 0, []), (.ldc2_w 258, 2, []), (.invokestatic 219, 0, [38, 309, 0, 3, 5, 5, 5]), (.ifCond .ne 6, 0, [31]), (.bipush (-2), -2, []), (.ireturn, 0, [])]
def s47_31 : List E := [(.aload_n 0, 0, [0]), (.getfield 152, 296, [0, 8, 13, 1]), (.aload_n 0, 0, [0]), (.getfield 138, 6, [0, 5, 91, 1]), (.iload_n 1, 0, [1]), (.aaload, 0, [45, 2]), (.aload_n 0, 0, [0]), (.getfield 54, 2, [0, 1, 3, 1]), (.iload_n 3, 0, [3]), (.invokevirtual 260, 0, [526, 6, 13, 8, 0, 3, 0, 7, 7]), (.ifCond .ne 6, 0, [55]), (.bipush (-4), -4, []), (.ireturn, 0, [])]
def s47_55 : List E := [(.aload_n 0, 0, [0]), (.getfield 138, 6, [0, 5, 91, 1]), (.iload_n 2, 0, [2]), (.aaload, 0, [45, 2]), (.aload_n 0, 0, [0]), (.getfield 54, 2, [0, 1, 3, 1]), (.invokevirtual 264, 0, [119, 1, 3, 230, 0, 100, 7]), (.aload_n 0, 0, [0]), (.getfield 54, 2, [0, 1, 3, 1]), (.getfield 43, 0, [1, 1, 0]), (.ireturn, 0, [])]
def cd47 : List (Nat × List E) := [(0, s47_0), (14, s47_14), (16, s47_16), (31, s47_31), (55, s47_55)]
theorem l47_0 : lkc cd47 0 = s47_0 := rfl
theorem l47_14 : lkc cd47 14 = s47_14 := rfl
theorem l47_16 : lkc cd47 16 = s47_16 := rfl
theorem l47_31 : lkc cd47 31 = s47_31 := rfl
theorem l47_55 : lkc cd47 55 = s47_55 := rfl
theorem k47 : chkM 47 0 true cd47 = true := by decide +kernel
/- FontHouse.open(II)I -/
def s48_0 : List E := [(.iload_n 1, 0, [1]), (.invokestatic 234, 0, [37, 310, 0, 3, 0]), (.ifCond .eq 10, 0, [14]), (.iload_n 2, 0, [2]), (.invokestatic 234, 0, [37, 310, 0, 3, 0]), (.ifCond .ne 5, 0, [16]), (.nop, 0, [14])]
def s48_14 : List E := [(.iconst (-1), -1, []), (.ireturn, 0, [])]
def s48_16 : List E := [(.aload_n 0, 0, [0]), (.getfield 145, 259, [0, 7, 9, 1]), (.aload_n 0, 0, [0]), (.getfield 138, 6, [0, 5, 91, 1]), (.iload_n 1, 0, [1]), (.aaload, 0, [45, 2]), (.invokevirtual 268, 0, [490, 4, 9, 8, 33, 100, 7]), (.goto 10, 0, [39])]
def s48_32 : List E := [(.astore_n 3, 0, [3]), (.aload_n 0, 0, [0]), (.aload_n 3, 0, [3]), (.invokevirtual 271, 0, [49, 0, 1, 334, 0, 0, 23]), (.ireturn, 0, [])]
def s48_39 : List E := [(.aload_n 0, 0, [0]), (.iconst (-1), -1, []), (.putfield 200, 0, [0, 15, 0]), (.aload_n 0, 0, [0]), (.getfield 138, 6, [0, 5, 91, 1]), (.iload_n 2, 0, [2]), (.aaload, 0, [45, 2]), (.aload_n 0, 0, [0]), (.getfield 145, 259, [0, 7, 9, 1]), (.getfield 275, 1, [4, 2, 3, 1]), (.invokevirtual 264, 0, [119, 1, 3, 251, 0, 100, 7]), (.aload_n 0, 0, [0]), (.getfield 145, 259, [0, 7, 9, 1]), (.getfield 275, 1, [4, 2, 3, 1]), (.getfield 43, 0, [1, 1, 0]), (.ireturn, 0, [])]
def cd48 : List (Nat × List E) := [(0, s48_0), (14, s48_14), (16, s48_16), (32, s48_32), (39, s48_39)]
theorem l48_0 : lkc cd48 0 = s48_0 := rfl
theorem l48_14 : lkc cd48 14 = s48_14 := rfl
theorem l48_16 : lkc cd48 16 = s48_16 := rfl
theorem l48_32 : lkc cd48 32 = s48_32 := rfl
theorem l48_39 : lkc cd48 39 = s48_39 := rfl
theorem k48 : chkM 48 0 true cd48 = true := by decide +kernel
/- FontHouse.wrong(LFontHouse$Fault;)I -/
def s49_0 : List E := [(.aload_n 0, 0, [0]), (.aload_n 1, 0, [1]), (.getfield 228, 0, [17, 7, 0]), (.putfield 200, 0, [0, 15, 0]), (.bipush (-10), -10, []), (.aload_n 1, 0, [1]), (.getfield 231, 0, [17, 6, 0]), (.isub, 0, []), (.ireturn, 0, [])]
def cd49 : List (Nat × List E) := [(0, s49_0)]
theorem l49_0 : lkc cd49 0 = s49_0 := rfl
theorem k49 : chkM 49 0 true cd49 = true := by decide +kernel
/- FontHouse.place()I -/
def s50_0 : List E := [(.aload_n 0, 0, [0]), (.getfield 200, 0, [0, 15, 0]), (.ireturn, 0, [])]
def cd50 : List (Nat × List E) := [(0, s50_0)]
theorem l50_0 : lkc cd50 0 = s50_0 := rfl
theorem k50 : chkM 50 0 true cd50 = true := by decide +kernel
/- FontHouse.told(I)I -/
def s51_0 : List E := [(.iload_n 1, 0, [1]), (.tableswitch 118 0 10 #[59, 67, 75, 83, 91, 102, 118, 118, 118, 118, 110], 0, [119, 60, 68, 76, 84, 92, 103, 119, 119, 119, 119, 111])]
def s51_60 : List E := [(.aload_n 0, 0, [0]), (.getfield 145, 259, [0, 7, 9, 1]), (.getfield 278, 0, [4, 25, 0]), (.ireturn, 0, [])]
def s51_68 : List E := [(.aload_n 0, 0, [0]), (.getfield 145, 259, [0, 7, 9, 1]), (.getfield 281, 0, [4, 26, 0]), (.ireturn, 0, [])]
def s51_76 : List E := [(.aload_n 0, 0, [0]), (.getfield 145, 259, [0, 7, 9, 1]), (.getfield 284, 0, [4, 27, 0]), (.ireturn, 0, [])]
def s51_84 : List E := [(.aload_n 0, 0, [0]), (.getfield 145, 259, [0, 7, 9, 1]), (.getfield 287, 0, [4, 28, 0]), (.ireturn, 0, [])]
def s51_92 : List E := [(.aload_n 0, 0, [0]), (.getfield 145, 259, [0, 7, 9, 1]), (.getfield 275, 1, [4, 2, 3, 1]), (.getfield 43, 0, [1, 1, 0]), (.ireturn, 0, [])]
def s51_103 : List E := [(.aload_n 0, 0, [0]), (.getfield 145, 259, [0, 7, 9, 1]), (.getfield 290, 0, [4, 3, 0]), (.ireturn, 0, [])]
def s51_111 : List E := [(.aload_n 0, 0, [0]), (.getfield 145, 259, [0, 7, 9, 1]), (.getfield 293, 0, [4, 29, 0]), (.ireturn, 0, [])]
def s51_119 : List E := [(.iload_n 1, 0, [1]), (.i2l, 0, []), (.ldc2_w 296, 6, []), (.ldc2_w 298, 9, []), (.invokestatic 219, 0, [38, 8, 0, 3, 5, 5, 5]), (.ifCond .eq 18, 0, [148]), (.aload_n 0, 0, [0]), (.getfield 145, 259, [0, 7, 9, 1]), (.getfield 300, 36, [4, 24, 81, 1]), (.iload_n 1, 0, [1]), (.bipush 6, 6, []), (.isub, 0, []), (.iaload, 0, []), (.goto 5, 0, [150])]
def s51_148 : List E := [(.bipush (-2), -2, []), (.nop, 0, [150])]
def s51_150 : List E := [(.ireturn, 0, [])]
def cd51 : List (Nat × List E) := [(0, s51_0), (60, s51_60), (68, s51_68), (76, s51_76), (84, s51_84), (92, s51_92), (103, s51_103), (111, s51_111), (119, s51_119), (148, s51_148), (150, s51_150)]
theorem l51_0 : lkc cd51 0 = s51_0 := rfl
theorem l51_60 : lkc cd51 60 = s51_60 := rfl
theorem l51_68 : lkc cd51 68 = s51_68 := rfl
theorem l51_76 : lkc cd51 76 = s51_76 := rfl
theorem l51_84 : lkc cd51 84 = s51_84 := rfl
theorem l51_92 : lkc cd51 92 = s51_92 := rfl
theorem l51_103 : lkc cd51 103 = s51_103 := rfl
theorem l51_111 : lkc cd51 111 = s51_111 := rfl
theorem l51_119 : lkc cd51 119 = s51_119 := rfl
theorem l51_148 : lkc cd51 148 = s51_148 := rfl
theorem l51_150 : lkc cd51 150 = s51_150 := rfl
theorem k51 : chkM 51 0 true cd51 = true := by decide +kernel
/- FontHouse.found(I)I -/
def s52_0 : List E := [(.iload_n 1, 0, [1]), (.invokestatic 303, 0, [53, 67, 0, 3, 0]), (.ifCond .ne 5, 0, [9]), (.iconst (-1), -1, []), (.ireturn, 0, [])]
def s52_9 : List E := [(.aload_n 0, 0, [0]), (.getfield 99, 7, [0, 6, 5, 1]), (.invokevirtual 306, 0, [473, 2, 5, 10, 0, 100]), (.aload_n 0, 0, [0]), (.getfield 99, 7, [0, 6, 5, 1]), (.invokevirtual 309, 0, [474, 2, 5, 71, 0, 7]), (.astore_n 2, 0, [2]), (.aload_n 0, 0, [0]), (.getfield 99, 7, [0, 6, 5, 1]), (.invokevirtual 309, 0, [474, 2, 5, 71, 0, 7]), (.astore_n 3, 0, [3]), (.aload_n 3, 0, [3]), (.ldc 110, 65536, []), (.invokevirtual 23, 0, [120, 1, 3, 49, 0, 100, 0]), (.aload_n 3, 0, [3]), (.ldc 110, 65536, []), (.invokevirtual 23, 0, [120, 1, 3, 49, 0, 100, 0]), (.aload_n 3, 0, [3]), (.iconst 0, 0, []), (.invokevirtual 23, 0, [120, 1, 3, 49, 0, 100, 0]), (.aload_n 3, 0, [3]), (.ldc_w 313, 1594834165, []), (.invokevirtual 23, 0, [120, 1, 3, 49, 0, 100, 0]), (.aload_n 3, 0, [3]), (.iconst 0, 0, []), (.invokevirtual 32, 0, [121, 1, 3, 70, 0, 100, 0]), (.aload_n 3, 0, [3]), (.sipush 1000, 1000, []), (.invokevirtual 32, 0, [121, 1, 3, 70, 0, 100, 0]), (.aload_n 3, 0, [3]), (.bipush 24, 24, []), (.invokestatic 314, 0, [54, 69, 0, 100, 0, 7]), (.aload_n 3, 0, [3]), (.iconst 0, 0, []), (.invokevirtual 32, 0, [121, 1, 3, 70, 0, 100, 0]), (.aload_n 3, 0, [3]), (.bipush 8, 8, []), (.invokevirtual 32, 0, [121, 1, 3, 70, 0, 100, 0]), (.aload_n 3, 0, [3]), (.iconst 2, 2, []), (.invokevirtual 32, 0, [121, 1, 3, 70, 0, 100, 0]), (.aload_n 3, 0, [3]), (.iconst 1, 1, []), (.invokevirtual 32, 0, [121, 1, 3, 70, 0, 100, 0]), (.aload_n 3, 0, [3]), (.iconst 0, 0, []), (.invokevirtual 32, 0, [121, 1, 3, 70, 0, 100, 0]), (.aload_n 0, 0, [0]), (.getfield 99, 7, [0, 6, 5, 1]), (.invokevirtual 309, 0, [474, 2, 5, 71, 0, 7]), (.astore 4, 0, [4]), (.aload 4, 0, [4]), (.ldc 110, 65536, []), (.invokevirtual 23, 0, [120, 1, 3, 49, 0, 100, 0]), (.aload 4, 0, [4]), (.bipush 30, 30, []), (.invokestatic 314, 0, [54, 69, 0, 100, 0, 7]), (.aload 4, 0, [4]), (.iconst 1, 1, []), (.invokevirtual 32, 0, [121, 1, 3, 70, 0, 100, 0]), (.aload_n 0, 0, [0]), (.getfield 99, 7, [0, 6, 5, 1]), (.invokevirtual 309, 0, [474, 2, 5, 71, 0, 7]), (.astore 5, 0, [5]), (.aload 5, 0, [5]), (.iconst 4, 4, []), (.invokestatic 314, 0, [54, 69, 0, 100, 0, 7]), (.aload_n 0, 0, [0]), (.getfield 99, 7, [0, 6, 5, 1]), (.invokevirtual 309, 0, [474, 2, 5, 71, 0, 7]), (.astore 6, 0, [6]), (.aload 6, 0, [6]), (.bipush 8, 8, []), (.invokestatic 314, 0, [54, 69, 0, 100, 0, 7]), (.aload_n 0, 0, [0]), (.getfield 99, 7, [0, 6, 5, 1]), (.invokevirtual 309, 0, [474, 2, 5, 71, 0, 7]), (.astore 7, 0, [7]), (.aload 7, 0, [7]), (.sipush 20480, 20480, []), (.invokevirtual 23, 0, [120, 1, 3, 49, 0, 100, 0]), (.aload 7, 0, [7]), (.iconst 1, 1, []), (.invokevirtual 32, 0, [121, 1, 3, 70, 0, 100, 0]), (.aload_n 0, 0, [0]), (.getfield 99, 7, [0, 6, 5, 1]), (.getfield 103, 2, [2, 1, 93, 1]), (.iload_n 1, 0, [1]), (.aaload, 0, [46, 6]), (.astore 8, 0, [8]), (.aload 8, 0, [8]), (.ldc 110, 65536, []), (.invokevirtual 318, 0, [483, 3, 7, 91, 0, 100, 0]), (.aload 8, 0, [8]), (.getstatic 321, 1735162214, [5]), (.aload_n 2, 0, [2]), (.invokevirtual 324, 0, [484, 3, 7, 87, 0, 3, 7, 5]), (.ifCond .eq 71, 0, [281]), (.aload 8, 0, [8]), (.getstatic 13, 1751474532, [0]), (.aload_n 3, 0, [3]), (.invokevirtual 324, 0, [484, 3, 7, 87, 0, 3, 7, 5]), (.ifCond .eq 59, 0, [281]), (.aload 8, 0, [8]), (.getstatic 328, 1751672161, [2]), (.aload 4, 0, [4]), (.invokevirtual 324, 0, [484, 3, 7, 87, 0, 3, 7, 5]), (.ifCond .eq 46, 0, [281]), (.aload 8, 0, [8]), (.getstatic 331, 1752003704, [3]), (.aload 5, 0, [5]), (.invokevirtual 324, 0, [484, 3, 7, 87, 0, 3, 7, 5]), (.ifCond .eq 33, 0, [281]), (.aload 8, 0, [8]), (.getstatic 334, 1819239265, [4]), (.aload 6, 0, [6]), (.invokevirtual 324, 0, [484, 3, 7, 87, 0, 3, 7, 5]), (.ifCond .eq 20, 0, [281]), (.aload 8, 0, [8]), (.getstatic 337, 1835104368, [1]), (.aload 7, 0, [7]), (.invokevirtual 324, 0, [484, 3, 7, 87, 0, 3, 7, 5]), (.ifCond .eq 7, 0, [281]), (.iconst 1, 1, []), (.goto 4, 0, [282])]
def s52_281 : List E := [(.iconst 0, 0, []), (.nop, 0, [282])]
def s52_282 : List E := [(.istore 9, 0, [9]), (.aload_n 0, 0, [0]), (.getfield 99, 7, [0, 6, 5, 1]), (.iload 9, 0, [9]), (.invokevirtual 340, 0, [475, 2, 5, 8, 0, 3, 3]), (.ifCond .eq 7, 0, [300]), (.iconst 1, 1, []), (.goto 5, 0, [302])]
def s52_300 : List E := [(.bipush (-4), -4, []), (.nop, 0, [302])]
def s52_302 : List E := [(.ireturn, 0, [])]
def cd52 : List (Nat × List E) := [(0, s52_0), (9, s52_9), (281, s52_281), (282, s52_282), (300, s52_300), (302, s52_302)]
theorem l52_0 : lkc cd52 0 = s52_0 := rfl
theorem l52_9 : lkc cd52 9 = s52_9 := rfl
theorem l52_281 : lkc cd52 281 = s52_281 := rfl
theorem l52_282 : lkc cd52 282 = s52_282 := rfl
theorem l52_300 : lkc cd52 300 = s52_300 := rfl
theorem l52_302 : lkc cd52 302 = s52_302 := rfl
theorem k52 : chkM 52 0 true cd52 = true := by decide +kernel
/- FontHouse.isPlace(I)Z -/
def s53_0 : List E := [(.iload_n 0, 0, [0]), (.i2l, 0, []), (.lconst 0, 0, []), (.ldc2_w 217, 3, []), (.invokestatic 219, 0, [38, 8, 0, 3, 5, 5, 5]), (.ireturn, 0, [1])]
def cd53 : List (Nat × List E) := [(0, s53_0)]
theorem l53_0 : lkc cd53 0 = s53_0 := rfl
theorem k53 : chkM 53 0 true cd53 = true := by decide +kernel
/- FontHouse.fill(LFontHouse$Bytes;I)V -/
def s54_0 : List E := [(.iconst 0, 0, []), (.istore_n 2, 0, [2]), (.nop, 0, [2])]
def s54_2 : List E := [(.iload_n 2, 0, [2]), (.iload_n 1, 0, [1]), (.if_icmp .ge 14, 0, [18]), (.aload_n 0, 0, [0]), (.iconst 0, 0, []), (.invokevirtual 240, 0, [113, 1, 3, 8, 0, 100, 0]), (.iinc 2 1, 1, [2]), (.goto (-13), 0, [2])]
def s54_18 : List E := [(.return_, 0, [])]
def cd54 : List (Nat × List E) := [(0, s54_0), (2, s54_2), (18, s54_18)]
theorem l54_0 : lkc cd54 0 = s54_0 := rfl
theorem l54_2 : lkc cd54 2 = s54_2 := rfl
theorem l54_18 : lkc cd54 18 = s54_18 := rfl
theorem k54 : chkM 54 0 true cd54 = true := by decide +kernel
/- FontHouse.load(II)I -/
def s55_0 : List E := [(.iload_n 1, 0, [1]), (.invokestatic 234, 0, [37, 163, 0, 3, 0]), (.ifCond .eq 20, 0, [24]), (.iload_n 2, 0, [2]), (.invokestatic 303, 0, [53, 163, 0, 3, 0]), (.ifCond .eq 13, 0, [24]), (.aload_n 0, 0, [0]), (.iload_n 1, 0, [1]), (.iload_n 2, 0, [2]), (.iconst 0, 0, []), (.invokevirtual 354, 0, [56, 0, 1, 8, 0, 0, 3, 0, 0]), (.goto 4, 0, [25])]
def s55_24 : List E := [(.iconst (-1), -1, []), (.nop, 0, [25])]
def s55_25 : List E := [(.ireturn, 0, [])]
def cd55 : List (Nat × List E) := [(0, s55_0), (24, s55_24), (25, s55_25)]
theorem l55_0 : lkc cd55 0 = s55_0 := rfl
theorem l55_24 : lkc cd55 24 = s55_24 := rfl
theorem l55_25 : lkc cd55 25 = s55_25 := rfl
theorem k55 : chkM 55 0 true cd55 = true := by decide +kernel
/- FontHouse.read(IIZ)I -/
def s56_0 : List E := [(.aload_n 0, 0, [0]), (.getfield 99, 7, [0, 6, 5, 1]), (.invokevirtual 306, 0, [473, 2, 5, 82, 0, 100]), (.aload_n 0, 0, [0]), (.getfield 161, 343, [0, 9, 19, 1]), (.aload_n 0, 0, [0]), (.getfield 138, 6, [0, 5, 91, 1]), (.iload_n 1, 0, [1]), (.aaload, 0, [45, 2]), (.iload_n 3, 0, [3]), (.invokevirtual 344, 0, [130, 9, 19, 8, 25, 100, 3, 7]), (.goto 21, 0, [42])]
def s56_24 : List E := [(.astore 4, 0, [4]), (.aload_n 0, 0, [0]), (.getfield 99, 7, [0, 6, 5, 1]), (.iconst 0, 0, []), (.invokevirtual 340, 0, [475, 2, 5, 80, 0, 3, 3]), (.pop, 0, []), (.aload_n 0, 0, [0]), (.aload 4, 0, [4]), (.invokevirtual 271, 0, [49, 0, 1, 163, 0, 0, 23]), (.ireturn, 0, [])]
def s56_42 : List E := [(.iconst 0, 0, []), (.istore 4, 0, [4]), (.nop, 0, [45])]
def s56_45 : List E := [(.iload 4, 0, [4]), (.iconst 4, 4, []), (.if_icmp .ge 27, 0, [75]), (.iload_n 3, 0, [3]), (.ifCond .eq 23, 0, [75]), (.aload_n 0, 0, [0]), (.getfield 99, 7, [0, 6, 5, 1]), (.getfield 103, 2, [2, 1, 93, 1]), (.iload 4, 0, [4]), (.aaload, 0, [46, 6]), (.iconst 0, 0, []), (.putfield 223, 0, [3, 0, 3]), (.iinc 4 1, 1, [4]), (.goto (-27), 0, [45])]
def s56_75 : List E := [(.aload_n 0, 0, [0]), (.getfield 161, 343, [0, 9, 19, 1]), (.iload_n 2, 0, [2]), (.invokevirtual 348, 0, [142, 9, 19, 10, 0, 100, 0]), (.aload_n 0, 0, [0]), (.getfield 99, 7, [0, 6, 5, 1]), (.iconst 1, 1, []), (.invokevirtual 340, 0, [475, 2, 5, 80, 0, 3, 3]), (.ifCond .ne 6, 0, [97]), (.bipush (-4), -4, []), (.ireturn, 0, [])]
def s56_97 : List E := [(.aload_n 0, 0, [0]), (.iconst (-1), -1, []), (.putfield 200, 0, [0, 15, 0]), (.iload_n 3, 0, [3]), (.ifCond .eq 13, 0, [116]), (.aload_n 0, 0, [0]), (.getfield 161, 343, [0, 9, 19, 1]), (.getfield 351, 0, [9, 1, 0]), (.goto 15, 0, [128])]
def s56_116 : List E := [(.aload_n 0, 0, [0]), (.getfield 99, 7, [0, 6, 5, 1]), (.getfield 103, 2, [2, 1, 93, 1]), (.iload_n 2, 0, [2]), (.aaload, 0, [46, 6]), (.getfield 29, 0, [3, 2, 0]), (.nop, 0, [128])]
def s56_128 : List E := [(.ireturn, 0, [])]
def cd56 : List (Nat × List E) := [(0, s56_0), (24, s56_24), (42, s56_42), (45, s56_45), (75, s56_75), (97, s56_97), (116, s56_116), (128, s56_128)]
theorem l56_0 : lkc cd56 0 = s56_0 := rfl
theorem l56_24 : lkc cd56 24 = s56_24 := rfl
theorem l56_42 : lkc cd56 42 = s56_42 := rfl
theorem l56_45 : lkc cd56 45 = s56_45 := rfl
theorem l56_75 : lkc cd56 75 = s56_75 := rfl
theorem l56_97 : lkc cd56 97 = s56_97 := rfl
theorem l56_116 : lkc cd56 116 = s56_116 := rfl
theorem l56_128 : lkc cd56 128 = s56_128 := rfl
theorem k56 : chkM 56 0 true cd56 = true := by decide +kernel
/- FontHouse.several(I)I -/
def s57_0 : List E := [(.iload_n 1, 0, [1]), (.invokestatic 234, 0, [37, 163, 0, 3, 0]), (.ifCond .eq 13, 0, [17]), (.aload_n 0, 0, [0]), (.iload_n 1, 0, [1]), (.iconst 0, 0, []), (.iconst 1, 1, []), (.invokevirtual 354, 0, [56, 0, 1, 8, 0, 0, 3, 0, 0]), (.goto 4, 0, [18])]
def s57_17 : List E := [(.iconst (-1), -1, []), (.nop, 0, [18])]
def s57_18 : List E := [(.ireturn, 0, [])]
def cd57 : List (Nat × List E) := [(0, s57_0), (17, s57_17), (18, s57_18)]
theorem l57_0 : lkc cd57 0 = s57_0 := rfl
theorem l57_17 : lkc cd57 17 = s57_17 := rfl
theorem l57_18 : lkc cd57 18 = s57_18 := rfl
theorem k57 : chkM 57 0 true cd57 = true := by decide +kernel
/- FontHouse.save(II)I -/
def s58_0 : List E := [(.iload_n 1, 0, [1]), (.invokestatic 303, 0, [53, 88, 0, 3, 0]), (.ifCond .eq 10, 0, [14]), (.iload_n 2, 0, [2]), (.invokestatic 234, 0, [37, 88, 0, 3, 0]), (.ifCond .ne 5, 0, [16]), (.nop, 0, [14])]
def s58_14 : List E := [(.iconst (-1), -1, []), (.ireturn, 0, [])]
def s58_16 : List E := [(.aload_n 0, 0, [0]), (.iload_n 1, 0, [1]), (.invokevirtual 357, 0, [59, 0, 1, 112, 0, 3, 0]), (.ifCond .eq 18, 0, [39]), (.aload_n 0, 0, [0]), (.getfield 99, 7, [0, 6, 5, 1]), (.getfield 103, 2, [2, 1, 93, 1]), (.iload_n 1, 0, [1]), (.aaload, 0, [46, 6]), (.getfield 29, 0, [3, 2, 0]), (.ifCond .ne 6, 0, [42]), (.nop, 0, [39])]
def s58_39 : List E := [(.bipush (-3), -3, []), (.ireturn, 0, [])]
def s58_42 : List E := [(.aload_n 0, 0, [0]), (.aload_n 0, 0, [0]), (.getfield 99, 7, [0, 6, 5, 1]), (.getfield 103, 2, [2, 1, 93, 1]), (.iload_n 1, 0, [1]), (.aaload, 0, [46, 6]), (.invokevirtual 360, 0, [60, 0, 1, 21, 0, 100, 9]), (.aload_n 0, 0, [0]), (.iload_n 2, 0, [2]), (.invokevirtual 364, 0, [64, 0, 1, 8, 0, 0, 0]), (.ireturn, 0, [])]
def cd58 : List (Nat × List E) := [(0, s58_0), (14, s58_14), (16, s58_16), (39, s58_39), (42, s58_42)]
theorem l58_0 : lkc cd58 0 = s58_0 := rfl
theorem l58_14 : lkc cd58 14 = s58_14 := rfl
theorem l58_16 : lkc cd58 16 = s58_16 := rfl
theorem l58_39 : lkc cd58 39 = s58_39 := rfl
theorem l58_42 : lkc cd58 42 = s58_42 := rfl
theorem k58 : chkM 58 0 true cd58 = true := by decide +kernel
/- FontHouse.isFont(I)Z -/
def s59_0 : List E := [(.aload_n 0, 0, [0]), (.getfield 99, 7, [0, 6, 5, 1]), (.getfield 103, 2, [2, 1, 93, 1]), (.iload_n 1, 0, [1]), (.aaload, 0, [46, 6]), (.getfield 223, 0, [3, 0, 3]), (.ireturn, 0, [1])]
def cd59 : List (Nat × List E) := [(0, s59_0)]
theorem l59_0 : lkc cd59 0 = s59_0 := rfl
theorem k59 : chkM 59 0 true cd59 = true := by decide +kernel
/- FontHouse.saveOne(LFontHouse$Font;)V -/
def s60_0 : List E := [(.aload_n 0, 0, [0]), (.getfield 54, 2, [0, 1, 3, 1]), (.invokevirtual 58, 0, [112, 1, 3, 76, 0, 100]), (.bipush 12, 12, []), (.bipush 16, 16, []), (.aload_n 1, 0, [1]), (.getfield 29, 0, [3, 2, 0]), (.imul, 0, []), (.iadd, 0, []), (.istore_n 2, 0, [2]), (.iconst (-1), -1, []), (.istore_n 3, 0, [3]), (.iconst 0, 0, []), (.istore 4, 0, [4]), (.nop, 0, [23])]
def s60_23 : List E := [(.iload 4, 0, [4]), (.aload_n 1, 0, [1]), (.getfield 29, 0, [3, 2, 0]), (.if_icmp .ge 67, 0, [96]), (.aload_n 0, 0, [0]), (.getfield 62, 1, [0, 0, 81, 1]), (.iload 4, 0, [4]), (.iload_n 2, 0, [2]), (.iastore, 0, []), (.aload_n 1, 0, [1]), (.getfield 39, 1, [3, 3, 87, 1]), (.iload 4, 0, [4]), (.laload, 0, []), (.getstatic 13, 1751474532, [0]), (.lcmp, 0, []), (.ifCond .ne 23, 0, [74]), (.aload_n 1, 0, [1]), (.getfield 35, 2, [3, 4, 91, 1]), (.iload 4, 0, [4]), (.aaload, 0, [45, 2]), (.getfield 43, 0, [1, 1, 0]), (.bipush 12, 12, []), (.if_icmp .lt 8, 0, [74]), (.iload_n 2, 0, [2]), (.bipush 8, 8, []), (.iadd, 0, []), (.istore_n 3, 0, [3]), (.nop, 0, [74])]
def s60_74 : List E := [(.iload_n 2, 0, [2]), (.aload_n 1, 0, [1]), (.getfield 35, 2, [3, 4, 91, 1]), (.iload 4, 0, [4]), (.aaload, 0, [45, 2]), (.getfield 43, 0, [1, 1, 0]), (.invokestatic 66, 0, [61, 76, 0, 0, 0]), (.iadd, 0, []), (.istore_n 2, 0, [2]), (.iinc 4 1, 1, [4]), (.goto (-70), 0, [23])]
def s60_96 : List E := [(.aload_n 0, 0, [0]), (.getfield 54, 2, [0, 1, 3, 1]), (.aload_n 1, 0, [1]), (.aload_n 0, 0, [0]), (.getfield 62, 1, [0, 0, 81, 1]), (.invokestatic 70, 0, [62, 8, 0, 100, 46, 9, 7]), (.iconst 0, 0, []), (.istore 4, 0, [4]), (.nop, 0, [111])]
def s60_111 : List E := [(.iload 4, 0, [4]), (.aload_n 1, 0, [1]), (.getfield 29, 0, [3, 2, 0]), (.if_icmp .ge 41, 0, [158]), (.aload_n 0, 0, [0]), (.getfield 54, 2, [0, 1, 3, 1]), (.aload_n 1, 0, [1]), (.getfield 35, 2, [3, 4, 91, 1]), (.iload 4, 0, [4]), (.aaload, 0, [45, 2]), (.iconst 0, 0, []), (.aload_n 1, 0, [1]), (.getfield 35, 2, [3, 4, 91, 1]), (.iload 4, 0, [4]), (.aaload, 0, [45, 2]), (.getfield 43, 0, [1, 1, 0]), (.invokevirtual 74, 0, [115, 1, 3, 13, 0, 100, 0, 0, 7]), (.aload_n 0, 0, [0]), (.getfield 54, 2, [0, 1, 3, 1]), (.invokevirtual 78, 0, [123, 1, 3, 55, 0, 100]), (.iinc 4 1, 1, [4]), (.goto (-44), 0, [111])]
def s60_158 : List E := [(.iload_n 3, 0, [3]), (.ifCond .lt 13, 0, [172]), (.aload_n 0, 0, [0]), (.getfield 54, 2, [0, 1, 3, 1]), (.getfield 81, 0, [1, 2, 3]), (.ifCond .eq 4, 0, [173]), (.nop, 0, [172])]
def s60_172 : List E := [(.return_, 0, [])]
def s60_173 : List E := [(.aload_n 0, 0, [0]), (.getfield 54, 2, [0, 1, 3, 1]), (.iload_n 3, 0, [3]), (.ldc 85, -1313820742, []), (.aload_n 0, 0, [0]), (.getfield 54, 2, [0, 1, 3, 1]), (.iconst 0, 0, []), (.aload_n 0, 0, [0]), (.getfield 54, 2, [0, 1, 3, 1]), (.getfield 43, 0, [1, 1, 0]), (.iload_n 3, 0, [3]), (.invokevirtual 50, 0, [116, 1, 3, 50, 0, 0, 0, 0, 0]), (.isub, 0, [1]), (.invokevirtual 86, 0, [124, 1, 3, 52, 0, 100, 0, 0]), (.return_, 0, [])]
def cd60 : List (Nat × List E) := [(0, s60_0), (23, s60_23), (74, s60_74), (96, s60_96), (111, s60_111), (158, s60_158), (172, s60_172), (173, s60_173)]
theorem l60_0 : lkc cd60 0 = s60_0 := rfl
theorem l60_23 : lkc cd60 23 = s60_23 := rfl
theorem l60_74 : lkc cd60 74 = s60_74 := rfl
theorem l60_96 : lkc cd60 96 = s60_96 := rfl
theorem l60_111 : lkc cd60 111 = s60_111 := rfl
theorem l60_158 : lkc cd60 158 = s60_158 := rfl
theorem l60_172 : lkc cd60 172 = s60_172 := rfl
theorem l60_173 : lkc cd60 173 = s60_173 := rfl
theorem k60 : chkM 60 0 true cd60 = true := by decide +kernel
/- FontHouse.padded(I)I -/
def s61_0 : List E := [(.iload_n 0, 0, [0]), (.iconst 3, 3, []), (.iadd, 0, []), (.bipush (-4), -4, []), (.iand, 0, []), (.ireturn, 0, [])]
def cd61 : List (Nat × List E) := [(0, s61_0)]
theorem l61_0 : lkc cd61 0 = s61_0 := rfl
theorem k61 : chkM 61 0 true cd61 = true := by decide +kernel
/- FontHouse.putDirectory(LFontHouse$Bytes;LFontHouse$Font;[I)V -/
def s62_0 : List E := [(.aload_n 0, 0, [0]), (.aload_n 1, 0, [1]), (.getfield 17, 0, [3, 1, 0]), (.invokevirtual 23, 0, [120, 1, 3, 8, 0, 100, 0]), (.aload_n 0, 0, [0]), (.aload_n 1, 0, [1]), (.getfield 29, 0, [3, 2, 0]), (.invokevirtual 32, 0, [121, 1, 3, 29, 0, 100, 0]), (.iconst 0, 0, []), (.istore_n 3, 0, [3]), (.nop, 0, [18])]
def s62_18 : List E := [(.iconst 2, 2, []), (.iload_n 3, 0, [3]), (.ishl, 0, []), (.aload_n 1, 0, [1]), (.getfield 29, 0, [3, 2, 0]), (.if_icmp .gt 9, 0, [34]), (.iinc 3 1, 1, [3]), (.goto (-13), 0, [18])]
def s62_34 : List E := [(.aload_n 0, 0, [0]), (.bipush 16, 16, []), (.iload_n 3, 0, [3]), (.ishl, 0, []), (.invokevirtual 32, 0, [121, 1, 3, 29, 0, 100, 0]), (.aload_n 0, 0, [0]), (.iload_n 3, 0, [3]), (.invokevirtual 32, 0, [121, 1, 3, 29, 0, 100, 0]), (.aload_n 0, 0, [0]), (.bipush 16, 16, []), (.aload_n 1, 0, [1]), (.getfield 29, 0, [3, 2, 0]), (.imul, 0, []), (.bipush 16, 16, []), (.iload_n 3, 0, [3]), (.ishl, 0, []), (.isub, 0, []), (.invokevirtual 32, 0, [121, 1, 3, 29, 0, 100, 0]), (.iconst 0, 0, []), (.istore 4, 0, [4]), (.nop, 0, [66])]
def s62_66 : List E := [(.iload 4, 0, [4]), (.aload_n 1, 0, [1]), (.getfield 29, 0, [3, 2, 0]), (.if_icmp .ge 72, 0, [144]), (.aload_n 1, 0, [1]), (.getfield 35, 2, [3, 4, 91, 1]), (.iload 4, 0, [4]), (.aaload, 0, [45, 2]), (.astore 5, 0, [5]), (.aload_n 0, 0, [0]), (.aload_n 1, 0, [1]), (.getfield 39, 1, [3, 3, 87, 1]), (.iload 4, 0, [4]), (.laload, 0, []), (.l2i, 0, []), (.invokevirtual 23, 0, [120, 1, 3, 8, 0, 100, 0]), (.aload_n 0, 0, [0]), (.aload 5, 0, [5]), (.iconst 0, 0, []), (.aload 5, 0, [5]), (.getfield 43, 0, [1, 1, 0]), (.aload_n 1, 0, [1]), (.getfield 39, 1, [3, 3, 87, 1]), (.iload 4, 0, [4]), (.laload, 0, []), (.invokestatic 46, 0, [63, 50, 0, 0, 5]), (.invokevirtual 50, 0, [116, 1, 3, 25, 0, 0, 0, 0, 0]), (.invokevirtual 23, 0, [120, 1, 3, 8, 0, 100, 0]), (.aload_n 0, 0, [0]), (.aload_n 2, 0, [2]), (.iload 4, 0, [4]), (.iaload, 0, []), (.invokevirtual 23, 0, [120, 1, 3, 8, 0, 100, 0]), (.aload_n 0, 0, [0]), (.aload 5, 0, [5]), (.getfield 43, 0, [1, 1, 0]), (.invokevirtual 23, 0, [120, 1, 3, 8, 0, 100, 0]), (.iinc 4 1, 1, [4]), (.goto (-75), 0, [66])]
def s62_144 : List E := [(.return_, 0, [])]
def cd62 : List (Nat × List E) := [(0, s62_0), (18, s62_18), (34, s62_34), (66, s62_66), (144, s62_144)]
theorem l62_0 : lkc cd62 0 = s62_0 := rfl
theorem l62_18 : lkc cd62 18 = s62_18 := rfl
theorem l62_34 : lkc cd62 34 = s62_34 := rfl
theorem l62_66 : lkc cd62 66 = s62_66 := rfl
theorem l62_144 : lkc cd62 144 = s62_144 := rfl
theorem k62 : chkM 62 0 true cd62 = true := by decide +kernel
/- FontHouse.holeOf(J)I -/
def s63_0 : List E := [(.lload_n 0, 0, [0]), (.getstatic 13, 1751474532, [0]), (.lcmp, 0, []), (.ifCond .ne 8, 0, [13]), (.bipush 8, 8, []), (.goto 5, 0, [15])]
def s63_13 : List E := [(.bipush (-4), -4, []), (.nop, 0, [15])]
def s63_15 : List E := [(.ireturn, 0, [])]
def cd63 : List (Nat × List E) := [(0, s63_0), (13, s63_13), (15, s63_15)]
theorem l63_0 : lkc cd63 0 = s63_0 := rfl
theorem l63_13 : lkc cd63 13 = s63_13 := rfl
theorem l63_15 : lkc cd63 15 = s63_15 := rfl
theorem k63 : chkM 63 0 true cd63 = true := by decide +kernel
/- FontHouse.give(I)I -/
def s64_0 : List E := [(.aload_n 0, 0, [0]), (.getfield 54, 2, [0, 1, 3, 1]), (.getfield 81, 0, [1, 2, 3]), (.ifCond .eq 6, 0, [13]), (.bipush (-4), -4, []), (.ireturn, 0, [])]
def s64_13 : List E := [(.aload_n 0, 0, [0]), (.getfield 138, 6, [0, 5, 91, 1]), (.iload_n 1, 0, [1]), (.aaload, 0, [45, 2]), (.aload_n 0, 0, [0]), (.getfield 54, 2, [0, 1, 3, 1]), (.invokevirtual 264, 0, [119, 1, 3, 8, 0, 100, 7]), (.aload_n 0, 0, [0]), (.getfield 54, 2, [0, 1, 3, 1]), (.getfield 43, 0, [1, 1, 0]), (.ireturn, 0, [])]
def cd64 : List (Nat × List E) := [(0, s64_0), (13, s64_13)]
theorem l64_0 : lkc cd64 0 = s64_0 := rfl
theorem l64_13 : lkc cd64 13 = s64_13 := rfl
theorem k64 : chkM 64 0 true cd64 = true := by decide +kernel
/- FontHouse.saveAll(II)I -/
def s65_0 : List E := [(.iload_n 2, 0, [2]), (.invokestatic 234, 0, [37, 88, 0, 3, 0]), (.ifCond .ne 5, 0, [9]), (.iconst (-1), -1, []), (.ireturn, 0, [])]
def s65_9 : List E := [(.iload_n 1, 0, [1]), (.i2l, 0, []), (.lconst 1, 1, []), (.ldc2_w 366, 15, []), (.invokestatic 219, 0, [38, 108, 0, 3, 5, 5, 5]), (.ifCond .ne 6, 0, [24]), (.bipush (-2), -2, []), (.ireturn, 0, [])]
def s65_24 : List E := [(.iconst 0, 0, []), (.istore_n 3, 0, [3]), (.nop, 0, [26])]
def s65_26 : List E := [(.iload_n 3, 0, [3]), (.iconst 4, 4, []), (.if_icmp .ge 44, 0, [72]), (.iload_n 1, 0, [1]), (.iload_n 3, 0, [3]), (.ishr, 0, []), (.iconst 1, 1, []), (.iand, 0, []), (.iconst 1, 1, []), (.if_icmp .ne 29, 0, [66]), (.aload_n 0, 0, [0]), (.iload_n 3, 0, [3]), (.invokevirtual 357, 0, [59, 0, 1, 112, 0, 3, 0]), (.ifCond .eq 18, 0, [63]), (.aload_n 0, 0, [0]), (.getfield 99, 7, [0, 6, 5, 1]), (.getfield 103, 2, [2, 1, 93, 1]), (.iload_n 3, 0, [3]), (.aaload, 0, [46, 6]), (.getfield 29, 0, [3, 2, 0]), (.ifCond .ne 6, 0, [66]), (.nop, 0, [63])]
def s65_63 : List E := [(.bipush (-3), -3, []), (.ireturn, 0, [])]
def s65_66 : List E := [(.iinc 3 1, 1, [3]), (.goto (-43), 0, [26])]
def s65_72 : List E := [(.aload_n 0, 0, [0]), (.iload_n 1, 0, [1]), (.invokevirtual 368, 0, [66, 0, 1, 16, 0, 100, 0]), (.aload_n 0, 0, [0]), (.iload_n 2, 0, [2]), (.invokevirtual 364, 0, [64, 0, 1, 8, 0, 0, 0]), (.ireturn, 0, [])]
def cd65 : List (Nat × List E) := [(0, s65_0), (9, s65_9), (24, s65_24), (26, s65_26), (63, s65_63), (66, s65_66), (72, s65_72)]
theorem l65_0 : lkc cd65 0 = s65_0 := rfl
theorem l65_9 : lkc cd65 9 = s65_9 := rfl
theorem l65_24 : lkc cd65 24 = s65_24 := rfl
theorem l65_26 : lkc cd65 26 = s65_26 := rfl
theorem l65_63 : lkc cd65 63 = s65_63 := rfl
theorem l65_66 : lkc cd65 66 = s65_66 := rfl
theorem l65_72 : lkc cd65 72 = s65_72 := rfl
theorem k65 : chkM 65 0 true cd65 = true := by decide +kernel
/- FontHouse.saveSeveral(I)V -/
def s66_0 : List E := [(.aload_n 0, 0, [0]), (.getfield 54, 2, [0, 1, 3, 1]), (.invokevirtual 58, 0, [112, 1, 3, 76, 0, 100]), (.iconst 0, 0, []), (.istore_n 2, 0, [2]), (.bipush 12, 12, []), (.istore_n 3, 0, [3]), (.iconst 0, 0, []), (.istore 4, 0, [4]), (.nop, 0, [15])]
def s66_15 : List E := [(.iload 4, 0, [4]), (.iconst 4, 4, []), (.if_icmp .ge 46, 0, [64]), (.iload_n 1, 0, [1]), (.iload 4, 0, [4]), (.ishr, 0, []), (.iconst 1, 1, []), (.iand, 0, []), (.ifCond .ne 6, 0, [33]), (.goto 28, 0, [58])]
def s66_33 : List E := [(.iinc 2 1, 1, [2]), (.iload_n 3, 0, [3]), (.bipush 16, 16, []), (.bipush 16, 16, []), (.aload_n 0, 0, [0]), (.getfield 99, 7, [0, 6, 5, 1]), (.getfield 103, 2, [2, 1, 93, 1]), (.iload 4, 0, [4]), (.aaload, 0, [46, 6]), (.getfield 29, 0, [3, 2, 0]), (.imul, 0, []), (.iadd, 0, []), (.iadd, 0, []), (.istore_n 3, 0, [3]), (.nop, 0, [58])]
def s66_58 : List E := [(.iinc 4 1, 1, [4]), (.goto (-46), 0, [15])]
def s66_64 : List E := [(.aload_n 0, 0, [0]), (.getfield 54, 2, [0, 1, 3, 1]), (.ldc 109, 1953784678, []), (.invokevirtual 23, 0, [120, 1, 3, 33, 0, 100, 0]), (.aload_n 0, 0, [0]), (.getfield 54, 2, [0, 1, 3, 1]), (.ldc 110, 65536, []), (.invokevirtual 23, 0, [120, 1, 3, 33, 0, 100, 0]), (.aload_n 0, 0, [0]), (.getfield 54, 2, [0, 1, 3, 1]), (.iload_n 2, 0, [2]), (.invokevirtual 23, 0, [120, 1, 3, 33, 0, 100, 0]), (.bipush 12, 12, []), (.iconst 4, 4, []), (.iload_n 2, 0, [2]), (.imul, 0, []), (.iadd, 0, []), (.istore 4, 0, [4]), (.iconst 0, 0, []), (.istore 5, 0, [5]), (.nop, 0, [101])]
def s66_101 : List E := [(.iload 5, 0, [5]), (.iconst 4, 4, []), (.if_icmp .ge 54, 0, [158]), (.iload_n 1, 0, [1]), (.iload 5, 0, [5]), (.ishr, 0, []), (.iconst 1, 1, []), (.iand, 0, []), (.ifCond .ne 6, 0, [119]), (.goto 36, 0, [152])]
def s66_119 : List E := [(.aload_n 0, 0, [0]), (.getfield 54, 2, [0, 1, 3, 1]), (.iload 4, 0, [4]), (.invokevirtual 23, 0, [120, 1, 3, 33, 0, 100, 0]), (.iload 4, 0, [4]), (.bipush 12, 12, []), (.bipush 16, 16, []), (.aload_n 0, 0, [0]), (.getfield 99, 7, [0, 6, 5, 1]), (.getfield 103, 2, [2, 1, 93, 1]), (.iload 5, 0, [5]), (.aaload, 0, [46, 6]), (.getfield 29, 0, [3, 2, 0]), (.imul, 0, []), (.iadd, 0, []), (.iadd, 0, []), (.istore 4, 0, [4]), (.nop, 0, [152])]
def s66_152 : List E := [(.iinc 5 1, 1, [5]), (.goto (-54), 0, [101])]
def s66_158 : List E := [(.aload_n 0, 0, [0]), (.iconst 0, 0, []), (.putfield 90, 0, [0, 4, 0]), (.iconst 0, 0, []), (.istore 5, 0, [5]), (.nop, 0, [166])]
def s66_166 : List E := [(.iload 5, 0, [5]), (.iconst 4, 4, []), (.if_icmp .ge 126, 0, [295]), (.iload_n 1, 0, [1]), (.iload 5, 0, [5]), (.ishr, 0, []), (.iconst 1, 1, []), (.iand, 0, []), (.ifCond .ne 6, 0, [184]), (.goto 108, 0, [289])]
def s66_184 : List E := [(.aload_n 0, 0, [0]), (.getfield 99, 7, [0, 6, 5, 1]), (.getfield 103, 2, [2, 1, 93, 1]), (.iload 5, 0, [5]), (.aaload, 0, [46, 6]), (.astore 6, 0, [6]), (.iconst 0, 0, []), (.istore 7, 0, [7]), (.nop, 0, [199])]
def s66_199 : List E := [(.iload 7, 0, [7]), (.aload 6, 0, [6]), (.getfield 29, 0, [3, 2, 0]), (.if_icmp .ge 70, 0, [276]), (.aload_n 0, 0, [0]), (.getfield 90, 0, [0, 4, 0]), (.istore 8, 0, [8]), (.aload_n 0, 0, [0]), (.aload 6, 0, [6]), (.getfield 35, 2, [3, 4, 91, 1]), (.iload 7, 0, [7]), (.aaload, 0, [45, 2]), (.iload_n 3, 0, [3]), (.invokevirtual 111, 0, [67, 0, 1, 73, 0, 0, 0, 7]), (.istore 9, 0, [9]), (.aload_n 0, 0, [0]), (.getfield 62, 1, [0, 0, 81, 1]), (.iload 7, 0, [7]), (.aload_n 0, 0, [0]), (.getfield 96, 5, [0, 3, 81, 1]), (.iload 9, 0, [9]), (.iaload, 0, []), (.iastore, 0, []), (.aload_n 0, 0, [0]), (.getfield 90, 0, [0, 4, 0]), (.iload 8, 0, [8]), (.if_icmp .le 20, 0, [270]), (.iload_n 3, 0, [3]), (.aload 6, 0, [6]), (.getfield 35, 2, [3, 4, 91, 1]), (.iload 7, 0, [7]), (.aaload, 0, [45, 2]), (.getfield 43, 0, [1, 1, 0]), (.invokestatic 66, 0, [61, 76, 0, 0, 0]), (.iadd, 0, []), (.istore_n 3, 0, [3]), (.nop, 0, [270])]
def s66_270 : List E := [(.iinc 7 1, 1, [7]), (.goto (-74), 0, [199])]
def s66_276 : List E := [(.aload_n 0, 0, [0]), (.getfield 54, 2, [0, 1, 3, 1]), (.aload 6, 0, [6]), (.aload_n 0, 0, [0]), (.getfield 62, 1, [0, 0, 81, 1]), (.invokestatic 70, 0, [62, 8, 0, 100, 46, 9, 7]), (.nop, 0, [289])]
def s66_289 : List E := [(.iinc 5 1, 1, [5]), (.goto (-126), 0, [166])]
def s66_295 : List E := [(.iconst 0, 0, []), (.istore 5, 0, [5]), (.nop, 0, [298])]
def s66_298 : List E := [(.iload 5, 0, [5]), (.aload_n 0, 0, [0]), (.getfield 90, 0, [0, 4, 0]), (.if_icmp .ge 41, 0, [345]), (.aload_n 0, 0, [0]), (.getfield 54, 2, [0, 1, 3, 1]), (.aload_n 0, 0, [0]), (.getfield 93, 4, [0, 2, 91, 1]), (.iload 5, 0, [5]), (.aaload, 0, [45, 2]), (.iconst 0, 0, []), (.aload_n 0, 0, [0]), (.getfield 93, 4, [0, 2, 91, 1]), (.iload 5, 0, [5]), (.aaload, 0, [45, 2]), (.getfield 43, 0, [1, 1, 0]), (.invokevirtual 74, 0, [115, 1, 3, 13, 0, 100, 0, 0, 7]), (.aload_n 0, 0, [0]), (.getfield 54, 2, [0, 1, 3, 1]), (.invokevirtual 78, 0, [123, 1, 3, 55, 0, 100]), (.iinc 5 1, 1, [5]), (.goto (-44), 0, [298])]
def s66_345 : List E := [(.return_, 0, [])]
def cd66 : List (Nat × List E) := [(0, s66_0), (15, s66_15), (33, s66_33), (58, s66_58), (64, s66_64), (101, s66_101), (119, s66_119), (152, s66_152), (158, s66_158), (166, s66_166), (184, s66_184), (199, s66_199), (270, s66_270), (276, s66_276), (289, s66_289), (295, s66_295), (298, s66_298), (345, s66_345)]
theorem l66_0 : lkc cd66 0 = s66_0 := rfl
theorem l66_15 : lkc cd66 15 = s66_15 := rfl
theorem l66_33 : lkc cd66 33 = s66_33 := rfl
theorem l66_58 : lkc cd66 58 = s66_58 := rfl
theorem l66_64 : lkc cd66 64 = s66_64 := rfl
theorem l66_101 : lkc cd66 101 = s66_101 := rfl
theorem l66_119 : lkc cd66 119 = s66_119 := rfl
theorem l66_152 : lkc cd66 152 = s66_152 := rfl
theorem l66_158 : lkc cd66 158 = s66_158 := rfl
theorem l66_166 : lkc cd66 166 = s66_166 := rfl
theorem l66_184 : lkc cd66 184 = s66_184 := rfl
theorem l66_199 : lkc cd66 199 = s66_199 := rfl
theorem l66_270 : lkc cd66 270 = s66_270 := rfl
theorem l66_276 : lkc cd66 276 = s66_276 := rfl
theorem l66_289 : lkc cd66 289 = s66_289 := rfl
theorem l66_295 : lkc cd66 295 = s66_295 := rfl
theorem l66_298 : lkc cd66 298 = s66_298 := rfl
theorem l66_345 : lkc cd66 345 = s66_345 := rfl
theorem k66 : chkM 66 0 true cd66 = true := by decide +kernel
/- FontHouse.seenAt(LFontHouse$Bytes;I)I -/
def s67_0 : List E := [(.iconst 0, 0, []), (.istore_n 3, 0, [3]), (.nop, 0, [2])]
def s67_2 : List E := [(.iload_n 3, 0, [3]), (.aload_n 0, 0, [0]), (.getfield 90, 0, [0, 4, 0]), (.if_icmp .ge 19, 0, [26]), (.aload_n 0, 0, [0]), (.getfield 93, 4, [0, 2, 91, 1]), (.iload_n 3, 0, [3]), (.aaload, 0, [45, 2]), (.aload_n 1, 0, [1]), (.if_acmp .eq 9, 0, [26]), (.iinc 3 1, 1, [3]), (.goto (-21), 0, [2])]
def s67_26 : List E := [(.iload_n 3, 0, [3]), (.aload_n 0, 0, [0]), (.getfield 90, 0, [0, 4, 0]), (.if_icmp .ge 5, 0, [36]), (.iload_n 3, 0, [3]), (.ireturn, 0, [])]
def s67_36 : List E := [(.aload_n 0, 0, [0]), (.getfield 93, 4, [0, 2, 91, 1]), (.iload_n 3, 0, [3]), (.aload_n 1, 0, [1]), (.aastore, 0, [45, 1]), (.aload_n 0, 0, [0]), (.getfield 96, 5, [0, 3, 81, 1]), (.iload_n 3, 0, [3]), (.iload_n 2, 0, [2]), (.iastore, 0, []), (.aload_n 0, 0, [0]), (.dup, 0, []), (.getfield 90, 0, [0, 4, 0]), (.iconst 1, 1, []), (.iadd, 0, []), (.putfield 90, 0, [0, 4, 0]), (.iload_n 3, 0, [3]), (.ireturn, 0, [])]
def cd67 : List (Nat × List E) := [(0, s67_0), (2, s67_2), (26, s67_26), (36, s67_36)]
theorem l67_0 : lkc cd67 0 = s67_0 := rfl
theorem l67_2 : lkc cd67 2 = s67_2 := rfl
theorem l67_26 : lkc cd67 26 = s67_26 := rfl
theorem l67_36 : lkc cd67 36 = s67_36 := rfl
theorem k67 : chkM 67 0 true cd67 = true := by decide +kernel
/- FontHouse.leave(I)I -/
def s68_0 : List E := [(.iload_n 1, 0, [1]), (.invokestatic 303, 0, [53, 8, 0, 3, 0]), (.ifCond .ne 5, 0, [9]), (.iconst (-1), -1, []), (.ireturn, 0, [])]
def s68_9 : List E := [(.aload_n 0, 0, [0]), (.iload_n 1, 0, [1]), (.invokevirtual 357, 0, [59, 0, 1, 32, 0, 3, 0]), (.istore_n 2, 0, [2]), (.aload_n 0, 0, [0]), (.getfield 99, 7, [0, 6, 5, 1]), (.getfield 103, 2, [2, 1, 93, 1]), (.iload_n 1, 0, [1]), (.aaload, 0, [46, 6]), (.iconst 0, 0, []), (.putfield 223, 0, [3, 0, 3]), (.aload_n 0, 0, [0]), (.getfield 99, 7, [0, 6, 5, 1]), (.invokevirtual 371, 0, [476, 2, 5, 30, 0, 100]), (.iload_n 2, 0, [2]), (.ifCond .eq 7, 0, [43]), (.iconst 1, 1, []), (.goto 4, 0, [44])]
def s68_43 : List E := [(.iconst 0, 0, []), (.nop, 0, [44])]
def s68_44 : List E := [(.ireturn, 0, [])]
def cd68 : List (Nat × List E) := [(0, s68_0), (9, s68_9), (43, s68_43), (44, s68_44)]
theorem l68_0 : lkc cd68 0 = s68_0 := rfl
theorem l68_9 : lkc cd68 9 = s68_9 := rfl
theorem l68_43 : lkc cd68 43 = s68_43 := rfl
theorem l68_44 : lkc cd68 44 = s68_44 := rfl
theorem k68 : chkM 68 0 true cd68 = true := by decide +kernel
/- FontHouse.tables(I)I -/
def s69_0 : List E := [(.iload_n 1, 0, [1]), (.invokestatic 303, 0, [53, 8, 0, 3, 0]), (.ifCond .ne 7, 0, [11]), (.iconst (-1), -1, []), (.goto 28, 0, [36])]
def s69_11 : List E := [(.aload_n 0, 0, [0]), (.iload_n 1, 0, [1]), (.invokevirtual 357, 0, [59, 0, 1, 32, 0, 3, 0]), (.ifCond .eq 18, 0, [34]), (.aload_n 0, 0, [0]), (.getfield 99, 7, [0, 6, 5, 1]), (.getfield 103, 2, [2, 1, 93, 1]), (.iload_n 1, 0, [1]), (.aaload, 0, [46, 6]), (.getfield 29, 0, [3, 2, 0]), (.goto 5, 0, [36])]
def s69_34 : List E := [(.bipush (-3), -3, []), (.nop, 0, [36])]
def s69_36 : List E := [(.ireturn, 0, [])]
def cd69 : List (Nat × List E) := [(0, s69_0), (11, s69_11), (34, s69_34), (36, s69_36)]
theorem l69_0 : lkc cd69 0 = s69_0 := rfl
theorem l69_11 : lkc cd69 11 = s69_11 := rfl
theorem l69_34 : lkc cd69 34 = s69_34 := rfl
theorem l69_36 : lkc cd69 36 = s69_36 := rfl
theorem k69 : chkM 69 0 true cd69 = true := by decide +kernel
/- FontHouse.table(III)J -/
def s70_0 : List E := [(.aload_n 0, 0, [0]), (.iload_n 1, 0, [1]), (.iload_n 2, 0, [2]), (.invokevirtual 373, 0, [71, 0, 1, 8, 0, 0, 0, 0]), (.ifCond .ge 11, 0, [17]), (.aload_n 0, 0, [0]), (.iload_n 1, 0, [1]), (.iload_n 2, 0, [2]), (.invokevirtual 373, 0, [71, 0, 1, 8, 0, 0, 0, 0]), (.i2l, 0, []), (.lreturn, 0, [])]
def s70_17 : List E := [(.aload_n 0, 0, [0]), (.getfield 99, 7, [0, 6, 5, 1]), (.getfield 103, 2, [2, 1, 93, 1]), (.iload_n 1, 0, [1]), (.aaload, 0, [46, 6]), (.astore 4, 0, [4]), (.aload 4, 0, [4]), (.getfield 35, 2, [3, 4, 91, 1]), (.iload_n 2, 0, [2]), (.aaload, 0, [45, 2]), (.astore 5, 0, [5]), (.iload_n 3, 0, [3]), (.tableswitch 80 0 3 #[30, 38, 45, 72], 0, [118, 68, 76, 83, 110])]
def s70_68 : List E := [(.aload 4, 0, [4]), (.getfield 39, 1, [3, 3, 87, 1]), (.iload_n 2, 0, [2]), (.laload, 0, []), (.lreturn, 0, [])]
def s70_76 : List E := [(.aload 5, 0, [5]), (.getfield 43, 0, [1, 1, 0]), (.i2l, 0, []), (.lreturn, 0, [])]
def s70_83 : List E := [(.aload 5, 0, [5]), (.iconst 0, 0, []), (.aload 5, 0, [5]), (.getfield 43, 0, [1, 1, 0]), (.aload 4, 0, [4]), (.getfield 39, 1, [3, 3, 87, 1]), (.iload_n 2, 0, [2]), (.laload, 0, []), (.invokestatic 46, 0, [63, 54, 0, 0, 5]), (.invokevirtual 50, 0, [116, 1, 3, 29, 0, 0, 0, 0, 0]), (.i2l, 0, []), (.ldc2_w 226, 4294967295, []), (.land, 0, []), (.lreturn, 0, [])]
def s70_110 : List E := [(.aload_n 0, 0, [0]), (.aload 5, 0, [5]), (.invokevirtual 377, 0, [72, 0, 1, 49, 0, 0, 7]), (.i2l, 0, []), (.lreturn, 0, [])]
def s70_118 : List E := [(.ldc2_w 381, -2, []), (.lreturn, 0, [])]
def cd70 : List (Nat × List E) := [(0, s70_0), (17, s70_17), (68, s70_68), (76, s70_76), (83, s70_83), (110, s70_110), (118, s70_118)]
theorem l70_0 : lkc cd70 0 = s70_0 := rfl
theorem l70_17 : lkc cd70 17 = s70_17 := rfl
theorem l70_68 : lkc cd70 68 = s70_68 := rfl
theorem l70_76 : lkc cd70 76 = s70_76 := rfl
theorem l70_83 : lkc cd70 83 = s70_83 := rfl
theorem l70_110 : lkc cd70 110 = s70_110 := rfl
theorem l70_118 : lkc cd70 118 = s70_118 := rfl
theorem k70 : chkM 70 0 true cd70 = true := by decide +kernel
/- FontHouse.noTable(II)I -/
def s71_0 : List E := [(.iload_n 1, 0, [1]), (.invokestatic 303, 0, [53, 8, 0, 3, 0]), (.ifCond .ne 7, 0, [11]), (.iconst (-1), -1, []), (.goto 45, 0, [53])]
def s71_11 : List E := [(.aload_n 0, 0, [0]), (.iload_n 1, 0, [1]), (.invokevirtual 357, 0, [59, 0, 1, 32, 0, 3, 0]), (.ifCond .ne 8, 0, [24]), (.bipush (-3), -3, []), (.goto 32, 0, [53])]
def s71_24 : List E := [(.iload_n 2, 0, [2]), (.i2l, 0, []), (.lconst 0, 0, []), (.aload_n 0, 0, [0]), (.getfield 99, 7, [0, 6, 5, 1]), (.getfield 103, 2, [2, 1, 93, 1]), (.iload_n 1, 0, [1]), (.aaload, 0, [46, 6]), (.getfield 29, 0, [3, 2, 0]), (.iconst 1, 1, []), (.isub, 0, []), (.i2l, 0, []), (.invokestatic 219, 0, [38, 28, 0, 3, 5, 5, 5]), (.ifCond .eq 7, 0, [52]), (.iconst 0, 0, []), (.goto 4, 0, [53])]
def s71_52 : List E := [(.iconst (-1), -1, []), (.nop, 0, [53])]
def s71_53 : List E := [(.ireturn, 0, [])]
def cd71 : List (Nat × List E) := [(0, s71_0), (11, s71_11), (24, s71_24), (52, s71_52), (53, s71_53)]
theorem l71_0 : lkc cd71 0 = s71_0 := rfl
theorem l71_11 : lkc cd71 11 = s71_11 := rfl
theorem l71_24 : lkc cd71 24 = s71_24 := rfl
theorem l71_52 : lkc cd71 52 = s71_52 := rfl
theorem l71_53 : lkc cd71 53 = s71_53 := rfl
theorem k71 : chkM 71 0 true cd71 = true := by decide +kernel
/- FontHouse.fontsWith(LFontHouse$Bytes;)I -/
def s72_0 : List E := [(.iconst 0, 0, []), (.istore_n 2, 0, [2]), (.iconst 0, 0, []), (.istore_n 3, 0, [3]), (.nop, 0, [4])]
def s72_4 : List E := [(.iload_n 3, 0, [3]), (.iconst 4, 4, []), (.if_icmp .ge 85, 0, [91]), (.aload_n 0, 0, [0]), (.getfield 99, 7, [0, 6, 5, 1]), (.getfield 103, 2, [2, 1, 93, 1]), (.iload_n 3, 0, [3]), (.aaload, 0, [46, 6]), (.astore 4, 0, [4]), (.iconst 0, 0, []), (.istore 5, 0, [5]), (.iconst 0, 0, []), (.istore 6, 0, [6]), (.nop, 0, [26])]
def s72_26 : List E := [(.iload 6, 0, [6]), (.aload 4, 0, [4]), (.getfield 29, 0, [3, 2, 0]), (.if_icmp .ge 39, 0, [72]), (.aload 4, 0, [4]), (.getfield 223, 0, [3, 0, 3]), (.ifCond .eq 31, 0, [72]), (.iload 5, 0, [5]), (.aload 4, 0, [4]), (.getfield 35, 2, [3, 4, 91, 1]), (.iload 6, 0, [6]), (.aaload, 0, [45, 2]), (.aload_n 1, 0, [1]), (.if_acmp .ne 7, 0, [62]), (.iconst 1, 1, []), (.goto 4, 0, [63])]
def s72_62 : List E := [(.iconst 0, 0, []), (.nop, 0, [63])]
def s72_63 : List E := [(.ior, 0, []), (.istore 5, 0, [5]), (.iinc 6 1, 1, [6]), (.goto (-43), 0, [26])]
def s72_72 : List E := [(.iload_n 2, 0, [2]), (.iload 5, 0, [5]), (.ifCond .eq 7, 0, [82]), (.iconst 1, 1, []), (.goto 4, 0, [83])]
def s72_82 : List E := [(.iconst 0, 0, []), (.nop, 0, [83])]
def s72_83 : List E := [(.iadd, 0, []), (.istore_n 2, 0, [2]), (.iinc 3 1, 1, [3]), (.goto (-84), 0, [4])]
def s72_91 : List E := [(.iload_n 2, 0, [2]), (.ireturn, 0, [])]
def cd72 : List (Nat × List E) := [(0, s72_0), (4, s72_4), (26, s72_26), (62, s72_62), (63, s72_63), (72, s72_72), (82, s72_82), (83, s72_83), (91, s72_91)]
theorem l72_0 : lkc cd72 0 = s72_0 := rfl
theorem l72_4 : lkc cd72 4 = s72_4 := rfl
theorem l72_26 : lkc cd72 26 = s72_26 := rfl
theorem l72_62 : lkc cd72 62 = s72_62 := rfl
theorem l72_63 : lkc cd72 63 = s72_63 := rfl
theorem l72_72 : lkc cd72 72 = s72_72 := rfl
theorem l72_82 : lkc cd72 82 = s72_82 := rfl
theorem l72_83 : lkc cd72 83 = s72_83 := rfl
theorem l72_91 : lkc cd72 91 = s72_91 := rfl
theorem k72 : chkM 72 0 true cd72 = true := by decide +kernel
/- FontHouse.octet(III)I -/
def s73_0 : List E := [(.aload_n 0, 0, [0]), (.iload_n 1, 0, [1]), (.iload_n 2, 0, [2]), (.invokevirtual 373, 0, [71, 0, 1, 8, 0, 0, 0, 0]), (.ifCond .ge 10, 0, [16]), (.aload_n 0, 0, [0]), (.iload_n 1, 0, [1]), (.iload_n 2, 0, [2]), (.invokevirtual 373, 0, [71, 0, 1, 8, 0, 0, 0, 0]), (.ireturn, 0, [])]
def s73_16 : List E := [(.aload_n 0, 0, [0]), (.getfield 99, 7, [0, 6, 5, 1]), (.getfield 103, 2, [2, 1, 93, 1]), (.iload_n 1, 0, [1]), (.aaload, 0, [46, 6]), (.getfield 35, 2, [3, 4, 91, 1]), (.iload_n 2, 0, [2]), (.aaload, 0, [45, 2]), (.astore 4, 0, [4]), (.iload_n 3, 0, [3]), (.i2l, 0, []), (.lconst 0, 0, []), (.aload 4, 0, [4]), (.getfield 43, 0, [1, 1, 0]), (.iconst 1, 1, []), (.isub, 0, []), (.i2l, 0, []), (.invokestatic 219, 0, [38, 50, 0, 3, 5, 5, 5]), (.ifCond .eq 12, 0, [58]), (.aload 4, 0, [4]), (.iload_n 3, 0, [3]), (.invokevirtual 247, 0, [114, 1, 3, 54, 0, 0, 0]), (.goto 5, 0, [60])]
def s73_58 : List E := [(.bipush (-2), -2, []), (.nop, 0, [60])]
def s73_60 : List E := [(.ireturn, 0, [])]
def cd73 : List (Nat × List E) := [(0, s73_0), (16, s73_16), (58, s73_58), (60, s73_60)]
theorem l73_0 : lkc cd73 0 = s73_0 := rfl
theorem l73_16 : lkc cd73 16 = s73_16 := rfl
theorem l73_58 : lkc cd73 58 = s73_58 := rfl
theorem l73_60 : lkc cd73 60 = s73_60 := rfl
theorem k73 : chkM 73 0 true cd73 = true := by decide +kernel
