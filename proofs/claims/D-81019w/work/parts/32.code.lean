set_option maxRecDepth 100000
/- FontHouse.pack(IIIZ)I -/
def s102_0 : List E := [(.iload_n 2, 0, [2]), (.invokestatic 234, 0, [37, 314, 0, 3, 0]), (.ifCond .ne 5, 0, [9]), (.iconst (-1), -1, []), (.ireturn, 0, [])]
def s102_9 : List E := [(.iload_n 1, 0, [1]), (.i2l, 0, []), (.lconst 1, 1, []), (.ldc2_w 366, 15, []), (.invokestatic 219, 0, [38, 334, 0, 3, 5, 5, 5]), (.ifCond .eq 15, 0, [33]), (.iload_n 3, 0, [3]), (.i2l, 0, []), (.lconst 0, 0, []), (.ldc2_w 258, 2, []), (.invokestatic 219, 0, [38, 334, 0, 3, 5, 5, 5]), (.ifCond .ne 6, 0, [36]), (.nop, 0, [33])]
def s102_33 : List E := [(.bipush (-2), -2, []), (.ireturn, 0, [])]
def s102_36 : List E := [(.iconst 0, 0, []), (.istore 5, 0, [5]), (.nop, 0, [39])]
def s102_39 : List E := [(.iload 5, 0, [5]), (.iconst 4, 4, []), (.if_icmp .ge 87, 0, [129]), (.iload_n 1, 0, [1]), (.iload 5, 0, [5]), (.ishr, 0, []), (.iconst 1, 1, []), (.iand, 0, []), (.ifCond .ne 6, 0, [57]), (.goto 69, 0, [123])]
def s102_57 : List E := [(.aload_n 0, 0, [0]), (.getfield 99, 7, [0, 6, 5, 1]), (.getfield 103, 2, [2, 1, 93, 1]), (.iload 5, 0, [5]), (.aaload, 0, [46, 6]), (.astore 6, 0, [6]), (.aload 6, 0, [6]), (.getfield 223, 0, [3, 0, 3]), (.ifCond .eq 46, 0, [120]), (.aload 6, 0, [6]), (.invokevirtual 115, 0, [488, 3, 7, 316, 0, 0]), (.ifCond .eq 38, 0, [120]), (.aload 6, 0, [6]), (.getstatic 321, 1735162214, [5]), (.invokevirtual 390, 0, [485, 3, 7, 336, 0, 0, 5]), (.ifCond .ge 7, 0, [100]), (.iconst 1, 1, []), (.goto 4, 0, [101])]
def s102_100 : List E := [(.iconst 0, 0, []), (.nop, 0, [101])]
def s102_101 : List E := [(.aload 6, 0, [6]), (.getstatic 334, 1819239265, [4]), (.invokevirtual 390, 0, [485, 3, 7, 336, 0, 0, 5]), (.ifCond .ge 7, 0, [116]), (.iconst 1, 1, []), (.goto 4, 0, [117])]
def s102_116 : List E := [(.iconst 0, 0, []), (.nop, 0, [117])]
def s102_117 : List E := [(.if_icmp .eq 6, 0, [123]), (.nop, 0, [120])]
def s102_120 : List E := [(.bipush (-3), -3, []), (.ireturn, 0, [])]
def s102_123 : List E := [(.iinc 5 1, 1, [5]), (.goto (-87), 0, [39])]
def s102_129 : List E := [(.aload_n 0, 0, [0]), (.getfield 182, 401, [0, 12, 27, 1]), (.iload_n 1, 0, [1]), (.iload_n 3, 0, [3]), (.iload 4, 0, [4]), (.invokevirtual 546, 0, [194, 13, 27, 8, 0, 3, 3, 0, 0]), (.ifCond .ne 6, 0, [146]), (.bipush (-4), -4, []), (.ireturn, 0, [])]
def s102_146 : List E := [(.aload_n 0, 0, [0]), (.getfield 138, 6, [0, 5, 91, 1]), (.iload_n 2, 0, [2]), (.aaload, 0, [45, 2]), (.aload_n 0, 0, [0]), (.getfield 54, 2, [0, 1, 3, 1]), (.invokevirtual 264, 0, [119, 1, 3, 255, 0, 100, 7]), (.aload_n 0, 0, [0]), (.getfield 196, 435, [0, 14, 29, 1]), (.aload_n 0, 0, [0]), (.getfield 182, 401, [0, 12, 27, 1]), (.getfield 550, 1, [13, 0, 29, 1]), (.invokevirtual 553, 0, [206, 14, 29, 278, 0, 100, 20]), (.aload_n 0, 0, [0]), (.getfield 54, 2, [0, 1, 3, 1]), (.getfield 43, 0, [1, 1, 0]), (.ireturn, 0, [])]
def cd102 : List (Nat × List E) := [(0, s102_0), (9, s102_9), (33, s102_33), (36, s102_36), (39, s102_39), (57, s102_57), (100, s102_100), (101, s102_101), (116, s102_116), (117, s102_117), (120, s102_120), (123, s102_123), (129, s102_129), (146, s102_146)]
theorem l102_0 : lkc cd102 0 = s102_0 := rfl
theorem l102_9 : lkc cd102 9 = s102_9 := rfl
theorem l102_33 : lkc cd102 33 = s102_33 := rfl
theorem l102_36 : lkc cd102 36 = s102_36 := rfl
theorem l102_39 : lkc cd102 39 = s102_39 := rfl
theorem l102_57 : lkc cd102 57 = s102_57 := rfl
theorem l102_100 : lkc cd102 100 = s102_100 := rfl
theorem l102_101 : lkc cd102 101 = s102_101 := rfl
theorem l102_116 : lkc cd102 116 = s102_116 := rfl
theorem l102_117 : lkc cd102 117 = s102_117 := rfl
theorem l102_120 : lkc cd102 120 = s102_120 := rfl
theorem l102_123 : lkc cd102 123 = s102_123 := rfl
theorem l102_129 : lkc cd102 129 = s102_129 := rfl
theorem l102_146 : lkc cd102 146 = s102_146 := rfl
theorem k102 : chkM 102 0 true cd102 = true := by decide +kernel
/- FontHouse.lengthOf(I)I -/
def s103_0 : List E := [(.iconst 0, 0, []), (.istore_n 2, 0, [2]), (.iconst 0, 0, []), (.istore_n 3, 0, [3]), (.aload_n 0, 0, [0]), (.iconst 0, 0, []), (.putfield 90, 0, [0, 4, 0]), (.iconst 0, 0, []), (.istore 4, 0, [4]), (.nop, 0, [12])]
def s103_12 : List E := [(.iload 4, 0, [4]), (.iconst 4, 4, []), (.if_icmp .ge 128, 0, [143]), (.iload_n 1, 0, [1]), (.iload 4, 0, [4]), (.ishr, 0, []), (.iconst 1, 1, []), (.iand, 0, []), (.ifCond .ne 6, 0, [30]), (.goto 110, 0, [137])]
def s103_30 : List E := [(.aload_n 0, 0, [0]), (.getfield 99, 7, [0, 6, 5, 1]), (.getfield 103, 2, [2, 1, 93, 1]), (.iload 4, 0, [4]), (.aaload, 0, [46, 6]), (.astore 5, 0, [5]), (.iinc 2 1, 1, [2]), (.iload_n 3, 0, [3]), (.bipush 12, 12, []), (.bipush 16, 16, []), (.aload 5, 0, [5]), (.invokevirtual 115, 0, [488, 3, 7, 8, 0, 0]), (.imul, 0, []), (.iadd, 0, []), (.iadd, 0, []), (.istore_n 3, 0, [3]), (.iconst 0, 0, []), (.istore 6, 0, [6]), (.nop, 0, [62])]
def s103_62 : List E := [(.iload 6, 0, [6]), (.aload 5, 0, [5]), (.getfield 29, 0, [3, 2, 0]), (.if_icmp .ge 68, 0, [137]), (.aload_n 0, 0, [0]), (.getfield 90, 0, [0, 4, 0]), (.istore 7, 0, [7]), (.aload 5, 0, [5]), (.getfield 39, 1, [3, 3, 87, 1]), (.iload 6, 0, [6]), (.laload, 0, []), (.getstatic 119, 1146308935, [6]), (.lcmp, 0, []), (.ifCond .eq 41, 0, [131]), (.aload_n 0, 0, [0]), (.aload 5, 0, [5]), (.getfield 35, 2, [3, 4, 91, 1]), (.iload 6, 0, [6]), (.aaload, 0, [45, 2]), (.iconst 0, 0, []), (.invokevirtual 111, 0, [67, 0, 1, 28, 0, 0, 0, 7]), (.iload 7, 0, [7]), (.if_icmp .ge 6, 0, [114]), (.goto 20, 0, [131])]
def s103_114 : List E := [(.iload_n 3, 0, [3]), (.aload 5, 0, [5]), (.getfield 35, 2, [3, 4, 91, 1]), (.iload 6, 0, [6]), (.aaload, 0, [45, 2]), (.getfield 43, 0, [1, 1, 0]), (.invokestatic 66, 0, [61, 31, 0, 0, 0]), (.iadd, 0, []), (.istore_n 3, 0, [3]), (.nop, 0, [131])]
def s103_131 : List E := [(.iinc 6 1, 1, [6]), (.goto (-72), 0, [62])]
def s103_137 : List E := [(.iinc 4 1, 1, [4]), (.goto (-128), 0, [12])]
def s103_143 : List E := [(.iload_n 2, 0, [2]), (.iconst 1, 1, []), (.if_icmp .ne 7, 0, [152]), (.iload_n 3, 0, [3]), (.goto 11, 0, [160])]
def s103_152 : List E := [(.iload_n 3, 0, [3]), (.bipush 12, 12, []), (.iadd, 0, []), (.iconst 4, 4, []), (.iload_n 2, 0, [2]), (.imul, 0, []), (.iadd, 0, []), (.nop, 0, [160])]
def s103_160 : List E := [(.ireturn, 0, [])]
def cd103 : List (Nat × List E) := [(0, s103_0), (12, s103_12), (30, s103_30), (62, s103_62), (114, s103_114), (131, s103_131), (137, s103_137), (143, s103_143), (152, s103_152), (160, s103_160)]
theorem l103_0 : lkc cd103 0 = s103_0 := rfl
theorem l103_12 : lkc cd103 12 = s103_12 := rfl
theorem l103_30 : lkc cd103 30 = s103_30 := rfl
theorem l103_62 : lkc cd103 62 = s103_62 := rfl
theorem l103_114 : lkc cd103 114 = s103_114 := rfl
theorem l103_131 : lkc cd103 131 = s103_131 := rfl
theorem l103_137 : lkc cd103 137 = s103_137 := rfl
theorem l103_143 : lkc cd103 143 = s103_143 := rfl
theorem l103_152 : lkc cd103 152 = s103_152 := rfl
theorem l103_160 : lkc cd103 160 = s103_160 := rfl
theorem k103 : chkM 103 0 true cd103 = true := by decide +kernel
/- FontHouse.unwrap(I)I -/
def s107_0 : List E := [(.iload_n 1, 0, [1]), (.invokestatic 234, 0, [37, 358, 0, 3, 0]), (.ifCond .ne 5, 0, [9]), (.iconst (-1), -1, []), (.ireturn, 0, [])]
def s107_9 : List E := [(.aload_n 0, 0, [0]), (.getfield 99, 7, [0, 6, 5, 1]), (.invokevirtual 306, 0, [473, 2, 5, 301, 0, 100]), (.aload_n 0, 0, [0]), (.getfield 189, 417, [0, 13, 31, 1]), (.aload_n 0, 0, [0]), (.getfield 138, 6, [0, 5, 91, 1]), (.iload_n 1, 0, [1]), (.aaload, 0, [45, 2]), (.invokevirtual 556, 0, [208, 15, 31, 8, 33, 100, 7]), (.goto 19, 0, [48])]
def s107_32 : List E := [(.astore_n 2, 0, [2]), (.aload_n 0, 0, [0]), (.getfield 99, 7, [0, 6, 5, 1]), (.iconst 0, 0, []), (.invokevirtual 340, 0, [475, 2, 5, 299, 0, 3, 3]), (.pop, 0, []), (.aload_n 0, 0, [0]), (.aload_n 2, 0, [2]), (.invokevirtual 271, 0, [49, 0, 1, 382, 0, 0, 23]), (.ireturn, 0, [])]
def s107_48 : List E := [(.aload_n 0, 0, [0]), (.getfield 189, 417, [0, 13, 31, 1]), (.invokevirtual 558, 0, [226, 15, 31, 333, 0, 100]), (.aload_n 0, 0, [0]), (.getfield 99, 7, [0, 6, 5, 1]), (.iconst 1, 1, []), (.invokevirtual 340, 0, [475, 2, 5, 299, 0, 3, 3]), (.ifCond .ne 6, 0, [69]), (.bipush (-4), -4, []), (.ireturn, 0, [])]
def s107_69 : List E := [(.aload_n 0, 0, [0]), (.iconst (-1), -1, []), (.putfield 200, 0, [0, 15, 0]), (.aload_n 0, 0, [0]), (.getfield 196, 435, [0, 14, 29, 1]), (.aload_n 0, 0, [0]), (.getfield 189, 417, [0, 13, 31, 1]), (.getfield 560, 1, [15, 2, 29, 1]), (.invokevirtual 553, 0, [206, 14, 29, 322, 0, 100, 20]), (.aload_n 0, 0, [0]), (.getfield 196, 435, [0, 14, 29, 1]), (.getfield 561, 0, [14, 7, 0]), (.ireturn, 0, [])]
def cd107 : List (Nat × List E) := [(0, s107_0), (9, s107_9), (32, s107_32), (48, s107_48), (69, s107_69)]
theorem l107_0 : lkc cd107 0 = s107_0 := rfl
theorem l107_9 : lkc cd107 9 = s107_9 := rfl
theorem l107_32 : lkc cd107 32 = s107_32 := rfl
theorem l107_48 : lkc cd107 48 = s107_48 := rfl
theorem l107_69 : lkc cd107 69 = s107_69 := rfl
theorem k107 : chkM 107 0 true cd107 = true := by decide +kernel
/- FontHouse.entry(II)J -/
def s108_0 : List E := [(.iload_n 1, 0, [1]), (.i2l, 0, []), (.lconst 0, 0, []), (.aload_n 0, 0, [0]), (.getfield 196, 435, [0, 14, 29, 1]), (.getfield 562, 0, [14, 0, 0]), (.iconst 1, 1, []), (.isub, 0, []), (.i2l, 0, []), (.invokestatic 219, 0, [38, 8, 0, 3, 5, 5, 5]), (.ifCond .ne 7, 0, [23]), (.ldc2_w 256, -1, []), (.lreturn, 0, [])]
def s108_23 : List E := [(.iload_n 2, 0, [2]), (.tableswitch 75 0 3 #[32, 42, 53, 64], 0, [99, 56, 66, 77, 88])]
def s108_56 : List E := [(.aload_n 0, 0, [0]), (.getfield 196, 435, [0, 14, 29, 1]), (.getfield 563, 1, [14, 1, 87, 1]), (.iload_n 1, 0, [1]), (.laload, 0, []), (.lreturn, 0, [])]
def s108_66 : List E := [(.aload_n 0, 0, [0]), (.getfield 196, 435, [0, 14, 29, 1]), (.getfield 564, 2, [14, 2, 81, 1]), (.iload_n 1, 0, [1]), (.iaload, 0, []), (.i2l, 0, []), (.lreturn, 0, [])]
def s108_77 : List E := [(.aload_n 0, 0, [0]), (.getfield 196, 435, [0, 14, 29, 1]), (.getfield 567, 3, [14, 3, 81, 1]), (.iload_n 1, 0, [1]), (.iaload, 0, []), (.i2l, 0, []), (.lreturn, 0, [])]
def s108_88 : List E := [(.aload_n 0, 0, [0]), (.getfield 196, 435, [0, 14, 29, 1]), (.getfield 570, 4, [14, 4, 81, 1]), (.iload_n 1, 0, [1]), (.iaload, 0, []), (.i2l, 0, []), (.lreturn, 0, [])]
def s108_99 : List E := [(.ldc2_w 381, -2, []), (.lreturn, 0, [])]
def cd108 : List (Nat × List E) := [(0, s108_0), (23, s108_23), (56, s108_56), (66, s108_66), (77, s108_77), (88, s108_88), (99, s108_99)]
theorem l108_0 : lkc cd108 0 = s108_0 := rfl
theorem l108_23 : lkc cd108 23 = s108_23 := rfl
theorem l108_56 : lkc cd108 56 = s108_56 := rfl
theorem l108_66 : lkc cd108 66 = s108_66 := rfl
theorem l108_77 : lkc cd108 77 = s108_77 := rfl
theorem l108_88 : lkc cd108 88 = s108_88 := rfl
theorem l108_99 : lkc cd108 99 = s108_99 := rfl
theorem k108 : chkM 108 0 true cd108 = true := by decide +kernel
/- FontHouse.wrapped(I)J -/
def s109_0 : List E := [(.iload_n 1, 0, [1]), (.tableswitch 79 0 4 #[35, 44, 53, 62, 71], 0, [80, 36, 45, 54, 63, 72])]
def s109_36 : List E := [(.aload_n 0, 0, [0]), (.getfield 196, 435, [0, 14, 29, 1]), (.getfield 562, 0, [14, 0, 0]), (.i2l, 0, []), (.lreturn, 0, [])]
def s109_45 : List E := [(.aload_n 0, 0, [0]), (.getfield 196, 435, [0, 14, 29, 1]), (.getfield 561, 0, [14, 7, 0]), (.i2l, 0, []), (.lreturn, 0, [])]
def s109_54 : List E := [(.aload_n 0, 0, [0]), (.getfield 196, 435, [0, 14, 29, 1]), (.getfield 573, 0, [14, 8, 0]), (.i2l, 0, []), (.lreturn, 0, [])]
def s109_63 : List E := [(.aload_n 0, 0, [0]), (.getfield 196, 435, [0, 14, 29, 1]), (.getfield 576, 0, [14, 9, 0]), (.i2l, 0, []), (.lreturn, 0, [])]
def s109_72 : List E := [(.aload_n 0, 0, [0]), (.getfield 196, 435, [0, 14, 29, 1]), (.getfield 579, 0, [14, 10, 5]), (.lreturn, 0, [])]
def s109_80 : List E := [(.ldc2_w 381, -2, []), (.lreturn, 0, [])]
def cd109 : List (Nat × List E) := [(0, s109_0), (36, s109_36), (45, s109_45), (54, s109_54), (63, s109_63), (72, s109_72), (80, s109_80)]
theorem l109_0 : lkc cd109 0 = s109_0 := rfl
theorem l109_36 : lkc cd109 36 = s109_36 := rfl
theorem l109_45 : lkc cd109 45 = s109_45 := rfl
theorem l109_54 : lkc cd109 54 = s109_54 := rfl
theorem l109_63 : lkc cd109 63 = s109_63 := rfl
theorem l109_72 : lkc cd109 72 = s109_72 := rfl
theorem l109_80 : lkc cd109 80 = s109_80 := rfl
theorem k109 : chkM 109 0 true cd109 = true := by decide +kernel
/- FontHouse.bodies(I)I -/
def s110_0 : List E := [(.iload_n 1, 0, [1]), (.ifCond .ne 13, 0, [14]), (.aload_n 0, 0, [0]), (.getfield 99, 7, [0, 6, 5, 1]), (.getfield 582, 0, [2, 3, 0]), (.goto 20, 0, [31])]
def s110_14 : List E := [(.iload_n 1, 0, [1]), (.iconst 1, 1, []), (.if_icmp .ne 13, 0, [29]), (.aload_n 0, 0, [0]), (.getfield 99, 7, [0, 6, 5, 1]), (.getfield 585, 0, [2, 4, 0]), (.goto 5, 0, [31])]
def s110_29 : List E := [(.bipush (-2), -2, []), (.nop, 0, [31])]
def s110_31 : List E := [(.ireturn, 0, [])]
def cd110 : List (Nat × List E) := [(0, s110_0), (14, s110_14), (29, s110_29), (31, s110_31)]
theorem l110_0 : lkc cd110 0 = s110_0 := rfl
theorem l110_14 : lkc cd110 14 = s110_14 := rfl
theorem l110_29 : lkc cd110 29 = s110_29 := rfl
theorem l110_31 : lkc cd110 31 = s110_31 := rfl
theorem k110 : chkM 110 0 true cd110 = true := by decide +kernel
/- Bytes.<init>(I)V -/
def s111_0 : List E := [(.aload_n 0, 0, [0]), (.invokespecial 1, 0, [8]), (.aload_n 0, 0, [0]), (.iload_n 1, 0, [1]), (.newarray .byte, 0, [41, 83]), (.putfield 7, 0, [1, 0, 47]), (.return_, 0, [])]
def cd111 : List (Nat × List E) := [(0, s111_0)]
theorem l111_0 : lkc cd111 0 = s111_0 := rfl
theorem k111 : chkM 111 1 false cd111 = true := by decide +kernel
/- Bytes.clear()V -/
def s112_0 : List E := [(.aload_n 0, 0, [0]), (.iconst 0, 0, []), (.putfield 13, 0, [1, 1, 0]), (.aload_n 0, 0, [0]), (.iconst 0, 0, []), (.putfield 17, 0, [1, 2, 3]), (.return_, 0, [])]
def cd112 : List (Nat × List E) := [(0, s112_0)]
theorem l112_0 : lkc cd112 0 = s112_0 := rfl
theorem k112 : chkM 112 1 true cd112 = true := by decide +kernel
/- Bytes.add(I)V -/
def s113_0 : List E := [(.aload_n 0, 0, [0]), (.getfield 13, 0, [1, 1, 0]), (.aload_n 0, 0, [0]), (.getfield 7, 1, [1, 0, 83, 1]), (.arraylength, 0, [41]), (.if_icmp .ne 11, 0, [20]), (.aload_n 0, 0, [0]), (.iconst 1, 1, []), (.putfield 17, 0, [1, 2, 3]), (.goto 21, 0, [38])]
def s113_20 : List E := [(.aload_n 0, 0, [0]), (.getfield 7, 1, [1, 0, 83, 1]), (.aload_n 0, 0, [0]), (.dup, 0, []), (.getfield 13, 0, [1, 1, 0]), (.dup_x1, 0, []), (.iconst 1, 1, []), (.iadd, 0, []), (.putfield 13, 0, [1, 1, 0]), (.iload_n 1, 0, [1]), (.i2b, 0, []), (.bastore, 0, [41]), (.nop, 0, [38])]
def s113_38 : List E := [(.return_, 0, [])]
def cd113 : List (Nat × List E) := [(0, s113_0), (20, s113_20), (38, s113_38)]
theorem l113_0 : lkc cd113 0 = s113_0 := rfl
theorem l113_20 : lkc cd113 20 = s113_20 := rfl
theorem l113_38 : lkc cd113 38 = s113_38 := rfl
theorem k113 : chkM 113 1 true cd113 = true := by decide +kernel
/- Bytes.get(I)I -/
def s114_0 : List E := [(.aload_n 0, 0, [0]), (.getfield 7, 1, [1, 0, 83, 1]), (.iload_n 1, 0, [1]), (.baload, 0, [41]), (.sipush 255, 255, []), (.iand, 0, []), (.ireturn, 0, [])]
def cd114 : List (Nat × List E) := [(0, s114_0)]
theorem l114_0 : lkc cd114 0 = s114_0 := rfl
theorem k114 : chkM 114 1 true cd114 = true := by decide +kernel
/- Bytes.append(LFontHouse$Bytes;II)V -/
def s115_0 : List E := [(.iload_n 3, 0, [3]), (.aload_n 0, 0, [0]), (.getfield 7, 1, [1, 0, 83, 1]), (.arraylength, 0, [41]), (.aload_n 0, 0, [0]), (.getfield 13, 0, [1, 1, 0]), (.isub, 0, []), (.if_icmp .le 9, 0, [20]), (.aload_n 0, 0, [0]), (.iconst 1, 1, []), (.putfield 17, 0, [1, 2, 3]), (.return_, 0, [])]
def s115_20 : List E := [(.aload_n 1, 0, [1]), (.getfield 7, 1, [1, 0, 83, 1]), (.iload_n 2, 0, [2]), (.aload_n 0, 0, [0]), (.getfield 7, 1, [1, 0, 83, 1]), (.aload_n 0, 0, [0]), (.getfield 13, 0, [1, 1, 0]), (.iload_n 3, 0, [3]), (.invokestatic 44, 0, [41, 0]), (.aload_n 0, 0, [0]), (.dup, 0, []), (.getfield 13, 0, [1, 1, 0]), (.iload_n 3, 0, [3]), (.iadd, 0, []), (.putfield 13, 0, [1, 1, 0]), (.return_, 0, [])]
def cd115 : List (Nat × List E) := [(0, s115_0), (20, s115_20)]
theorem l115_0 : lkc cd115 0 = s115_0 := rfl
theorem l115_20 : lkc cd115 20 = s115_20 := rfl
theorem k115 : chkM 115 1 true cd115 = true := by decide +kernel
/- Bytes.sum(III)I -/
def s116_0 : List E := [(.iconst 0, 0, []), (.istore 4, 0, [4]), (.iconst 0, 0, []), (.istore 5, 0, [5]), (.nop, 0, [6])]
def s116_6 : List E := [(.iload 5, 0, [5]), (.iload_n 2, 0, [2]), (.if_icmp .ge 47, 0, [56]), (.iload 5, 0, [5]), (.iload_n 3, 0, [3]), (.if_icmp .lt 11, 0, [26]), (.iload 5, 0, [5]), (.iload_n 3, 0, [3]), (.iconst 3, 3, []), (.iadd, 0, []), (.if_icmp .le 27, 0, [50]), (.nop, 0, [26])]
def s116_26 : List E := [(.iload 4, 0, [4]), (.aload_n 0, 0, [0]), (.iload_n 1, 0, [1]), (.iload 5, 0, [5]), (.iadd, 0, []), (.invokevirtual 21, 0, [114, 1, 3, 8, 0, 0, 0]), (.bipush 24, 24, []), (.bipush 8, 8, []), (.iload 5, 0, [5]), (.iconst 4, 4, []), (.irem, 0, []), (.imul, 0, []), (.isub, 0, []), (.ishl, 0, []), (.iadd, 0, [1]), (.istore 4, 0, [4]), (.nop, 0, [50])]
def s116_50 : List E := [(.iinc 5 1, 1, [5]), (.goto (-47), 0, [6])]
def s116_56 : List E := [(.iload 4, 0, [4]), (.ireturn, 0, [])]
def cd116 : List (Nat × List E) := [(0, s116_0), (6, s116_6), (26, s116_26), (50, s116_50), (56, s116_56)]
theorem l116_0 : lkc cd116 0 = s116_0 := rfl
theorem l116_6 : lkc cd116 6 = s116_6 := rfl
theorem l116_26 : lkc cd116 26 = s116_26 := rfl
theorem l116_50 : lkc cd116 50 = s116_50 := rfl
theorem l116_56 : lkc cd116 56 = s116_56 := rfl
theorem k116 : chkM 116 1 true cd116 = true := by decide +kernel
/- Bytes.u4(I)I -/
def s117_0 : List E := [(.aload_n 0, 0, [0]), (.iload_n 1, 0, [1]), (.invokevirtual 25, 0, [118, 1, 3, 8, 0, 0, 0]), (.bipush 16, 16, []), (.ishl, 0, []), (.aload_n 0, 0, [0]), (.iload_n 1, 0, [1]), (.iconst 2, 2, []), (.iadd, 0, []), (.invokevirtual 25, 0, [118, 1, 3, 8, 0, 0, 0]), (.ior, 0, []), (.ireturn, 0, [])]
def cd117 : List (Nat × List E) := [(0, s117_0)]
theorem l117_0 : lkc cd117 0 = s117_0 := rfl
theorem k117 : chkM 117 1 true cd117 = true := by decide +kernel
/- Bytes.u2(I)I -/
def s118_0 : List E := [(.aload_n 0, 0, [0]), (.iload_n 1, 0, [1]), (.invokevirtual 21, 0, [114, 1, 3, 8, 0, 0, 0]), (.bipush 8, 8, []), (.ishl, 0, []), (.aload_n 0, 0, [0]), (.iload_n 1, 0, [1]), (.iconst 1, 1, []), (.iadd, 0, []), (.invokevirtual 21, 0, [114, 1, 3, 8, 0, 0, 0]), (.ior, 0, []), (.ireturn, 0, [])]
def cd118 : List (Nat × List E) := [(0, s118_0)]
theorem l118_0 : lkc cd118 0 = s118_0 := rfl
theorem k118 : chkM 118 1 true cd118 = true := by decide +kernel
/- Bytes.become(LFontHouse$Bytes;)V -/
def s119_0 : List E := [(.aload_n 0, 0, [0]), (.invokevirtual 50, 0, [112, 1, 3, 71, 0, 100]), (.aload_n 0, 0, [0]), (.aload_n 1, 0, [1]), (.iconst 0, 0, []), (.aload_n 1, 0, [1]), (.getfield 13, 0, [1, 1, 0]), (.invokevirtual 53, 0, [115, 1, 3, 8, 0, 100, 0, 0, 7]), (.return_, 0, [])]
def cd119 : List (Nat × List E) := [(0, s119_0)]
theorem l119_0 : lkc cd119 0 = s119_0 := rfl
theorem k119 : chkM 119 1 true cd119 = true := by decide +kernel
/- Bytes.add4(I)V -/
def s120_0 : List E := [(.aload_n 0, 0, [0]), (.iload_n 1, 0, [1]), (.bipush 16, 16, []), (.iushr, 0, []), (.invokevirtual 37, 0, [121, 1, 3, 8, 0, 100, 0]), (.aload_n 0, 0, [0]), (.iload_n 1, 0, [1]), (.invokevirtual 37, 0, [121, 1, 3, 8, 0, 100, 0]), (.return_, 0, [])]
def cd120 : List (Nat × List E) := [(0, s120_0)]
theorem l120_0 : lkc cd120 0 = s120_0 := rfl
theorem k120 : chkM 120 1 true cd120 = true := by decide +kernel
/- Bytes.add2(I)V -/
def s121_0 : List E := [(.aload_n 0, 0, [0]), (.iload_n 1, 0, [1]), (.bipush 8, 8, []), (.ishr, 0, []), (.invokevirtual 33, 0, [113, 1, 3, 8, 0, 100, 0]), (.aload_n 0, 0, [0]), (.iload_n 1, 0, [1]), (.invokevirtual 33, 0, [113, 1, 3, 8, 0, 100, 0]), (.return_, 0, [])]
def cd121 : List (Nat × List E) := [(0, s121_0)]
theorem l121_0 : lkc cd121 0 = s121_0 := rfl
theorem k121 : chkM 121 1 true cd121 = true := by decide +kernel
/- Bytes.number(I)J -/
def s122_0 : List E := [(.aload_n 0, 0, [0]), (.iload_n 1, 0, [1]), (.invokevirtual 28, 0, [117, 1, 3, 8, 0, 0, 0]), (.i2l, 0, []), (.ldc2_w 31, 4294967295, []), (.land, 0, []), (.lreturn, 0, [])]
def cd122 : List (Nat × List E) := [(0, s122_0)]
theorem l122_0 : lkc cd122 0 = s122_0 := rfl
theorem k122 : chkM 122 1 true cd122 = true := by decide +kernel
/- Bytes.pad()V -/
def s123_0 : List E := [(.aload_n 0, 0, [0]), (.getfield 13, 0, [1, 1, 0]), (.iconst 4, 4, []), (.irem, 0, []), (.ifCond .eq 11, 0, [17]), (.aload_n 0, 0, [0]), (.iconst 0, 0, []), (.invokevirtual 33, 0, [113, 1, 3, 8, 0, 100, 0]), (.goto (-14), 0, [0])]
def s123_17 : List E := [(.return_, 0, [])]
def cd123 : List (Nat × List E) := [(0, s123_0), (17, s123_17)]
theorem l123_0 : lkc cd123 0 = s123_0 := rfl
theorem l123_17 : lkc cd123 17 = s123_17 := rfl
theorem k123 : chkM 123 1 true cd123 = true := by decide +kernel
/- Bytes.set4(II)V -/
def s124_0 : List E := [(.aload_n 0, 0, [0]), (.iload_n 1, 0, [1]), (.iload_n 2, 0, [2]), (.bipush 16, 16, []), (.iushr, 0, []), (.invokevirtual 40, 0, [125, 1, 3, 8, 0, 100, 0, 0]), (.aload_n 0, 0, [0]), (.iload_n 1, 0, [1]), (.iconst 2, 2, []), (.iadd, 0, []), (.iload_n 2, 0, [2]), (.invokevirtual 40, 0, [125, 1, 3, 8, 0, 100, 0, 0]), (.return_, 0, [])]
def cd124 : List (Nat × List E) := [(0, s124_0)]
theorem l124_0 : lkc cd124 0 = s124_0 := rfl
theorem k124 : chkM 124 1 true cd124 = true := by decide +kernel
/- Bytes.set2(II)V -/
def s125_0 : List E := [(.aload_n 0, 0, [0]), (.getfield 7, 1, [1, 0, 83, 1]), (.iload_n 1, 0, [1]), (.iload_n 2, 0, [2]), (.bipush 8, 8, []), (.ishr, 0, []), (.i2b, 0, []), (.bastore, 0, [41]), (.aload_n 0, 0, [0]), (.getfield 7, 1, [1, 0, 83, 1]), (.iload_n 1, 0, [1]), (.iconst 1, 1, []), (.iadd, 0, []), (.iload_n 2, 0, [2]), (.i2b, 0, []), (.bastore, 0, [41]), (.return_, 0, [])]
def cd125 : List (Nat × List E) := [(0, s125_0)]
theorem l125_0 : lkc cd125 0 = s125_0 := rfl
theorem k125 : chkM 125 1 true cd125 = true := by decide +kernel
/- Bytes.i2(I)I -/
def s126_0 : List E := [(.aload_n 0, 0, [0]), (.iload_n 1, 0, [1]), (.invokevirtual 25, 0, [118, 1, 3, 8, 0, 0, 0]), (.i2s, 0, []), (.ireturn, 0, [])]
def cd126 : List (Nat × List E) := [(0, s126_0)]
theorem l126_0 : lkc cd126 0 = s126_0 := rfl
theorem k126 : chkM 126 1 true cd126 = true := by decide +kernel
/- Bytes.shorter(I)V -/
def s127_0 : List E := [(.iload_n 1, 0, [1]), (.sipush 253, 253, []), (.if_icmp .ge 11, 0, [15]), (.aload_n 0, 0, [0]), (.iload_n 1, 0, [1]), (.invokevirtual 33, 0, [113, 1, 3, 29, 0, 100, 0]), (.goto 67, 0, [79])]
def s127_15 : List E := [(.iload_n 1, 0, [1]), (.sipush 506, 506, []), (.if_icmp .ge 22, 0, [41]), (.aload_n 0, 0, [0]), (.sipush 255, 255, []), (.invokevirtual 33, 0, [113, 1, 3, 29, 0, 100, 0]), (.aload_n 0, 0, [0]), (.iload_n 1, 0, [1]), (.sipush 253, 253, []), (.isub, 0, []), (.invokevirtual 33, 0, [113, 1, 3, 29, 0, 100, 0]), (.goto 41, 0, [79])]
def s127_41 : List E := [(.iload_n 1, 0, [1]), (.sipush 762, 762, []), (.if_icmp .ge 22, 0, [67]), (.aload_n 0, 0, [0]), (.sipush 254, 254, []), (.invokevirtual 33, 0, [113, 1, 3, 29, 0, 100, 0]), (.aload_n 0, 0, [0]), (.iload_n 1, 0, [1]), (.sipush 506, 506, []), (.isub, 0, []), (.invokevirtual 33, 0, [113, 1, 3, 29, 0, 100, 0]), (.goto 15, 0, [79])]
def s127_67 : List E := [(.aload_n 0, 0, [0]), (.sipush 253, 253, []), (.invokevirtual 33, 0, [113, 1, 3, 29, 0, 100, 0]), (.aload_n 0, 0, [0]), (.iload_n 1, 0, [1]), (.invokevirtual 37, 0, [121, 1, 3, 8, 0, 100, 0]), (.nop, 0, [79])]
def s127_79 : List E := [(.return_, 0, [])]
def cd127 : List (Nat × List E) := [(0, s127_0), (15, s127_15), (41, s127_41), (67, s127_67), (79, s127_79)]
theorem l127_0 : lkc cd127 0 = s127_0 := rfl
theorem l127_15 : lkc cd127 15 = s127_15 := rfl
theorem l127_41 : lkc cd127 41 = s127_41 := rfl
theorem l127_67 : lkc cd127 67 = s127_67 := rfl
theorem l127_79 : lkc cd127 79 = s127_79 := rfl
theorem k127 : chkM 127 1 true cd127 = true := by decide +kernel
/- Bytes.big(I)V -/
def s128_0 : List E := [(.iconst 0, 0, []), (.istore_n 2, 0, [2]), (.bipush 28, 28, []), (.istore_n 3, 0, [3]), (.nop, 0, [5])]
def s128_5 : List E := [(.iload_n 3, 0, [3]), (.ifCond .lt 57, 0, [63]), (.iload_n 1, 0, [1]), (.iload_n 3, 0, [3]), (.iushr, 0, []), (.bipush 127, 127, []), (.iand, 0, []), (.istore 4, 0, [4]), (.iload_n 2, 0, [2]), (.iload 4, 0, [4]), (.ifCond .gt 7, 0, [27]), (.iload_n 3, 0, [3]), (.ifCond .ne 7, 0, [31]), (.nop, 0, [27])]
def s128_27 : List E := [(.iconst 1, 1, []), (.goto 4, 0, [32])]
def s128_31 : List E := [(.iconst 0, 0, []), (.nop, 0, [32])]
def s128_32 : List E := [(.ior, 0, []), (.istore_n 2, 0, [2]), (.iload_n 2, 0, [2]), (.ifCond .eq 22, 0, [57]), (.aload_n 0, 0, [0]), (.iload_n 3, 0, [3]), (.ifCond .ne 8, 0, [48]), (.iload 4, 0, [4]), (.goto 9, 0, [54])]
def s128_48 : List E := [(.iload 4, 0, [4]), (.sipush 128, 128, []), (.ior, 0, []), (.nop, 0, [54])]
def s128_54 : List E := [(.invokevirtual 33, 0, [113, 1, 3, 8, 0, 100, 0]), (.nop, 0, [57])]
def s128_57 : List E := [(.iinc 3 (-7), -7, [3]), (.goto (-55), 0, [5])]
def s128_63 : List E := [(.return_, 0, [])]
def cd128 : List (Nat × List E) := [(0, s128_0), (5, s128_5), (27, s128_27), (31, s128_31), (32, s128_32), (48, s128_48), (54, s128_54), (57, s128_57), (63, s128_63)]
theorem l128_0 : lkc cd128 0 = s128_0 := rfl
theorem l128_5 : lkc cd128 5 = s128_5 := rfl
theorem l128_27 : lkc cd128 27 = s128_27 := rfl
theorem l128_31 : lkc cd128 31 = s128_31 := rfl
theorem l128_32 : lkc cd128 32 = s128_32 := rfl
theorem l128_48 : lkc cd128 48 = s128_48 := rfl
theorem l128_54 : lkc cd128 54 = s128_54 := rfl
theorem l128_57 : lkc cd128 57 = s128_57 := rfl
theorem l128_63 : lkc cd128 63 = s128_63 := rfl
theorem k128 : chkM 128 1 true cd128 = true := by decide +kernel
/- Store.<init>()V -/
def s472_0 : List E := [(.aload_n 0, 0, [0]), (.invokespecial 3, 0, [29]), (.aload_n 0, 0, [0]), (.bipush 112, 112, []), (.anewarray 9, 0, [45, 91]), (.putfield 11, 0, [2, 0, 51]), (.aload_n 0, 0, [0]), (.iconst 4, 4, []), (.anewarray 17, 0, [46, 93]), (.putfield 19, 0, [2, 1, 52]), (.aload_n 0, 0, [0]), (.iconst 4, 4, []), (.anewarray 17, 0, [46, 93]), (.putfield 23, 0, [2, 2, 52]), (.iconst 0, 0, []), (.istore_n 1, 0, [1]), (.nop, 0, [31])]
def s472_31 : List E := [(.iload_n 1, 0, [1]), (.aload_n 0, 0, [0]), (.getfield 11, 0, [2, 0, 51]), (.arraylength, 0, [45]), (.if_icmp .ge 25, 0, [62]), (.aload_n 0, 0, [0]), (.getfield 11, 0, [2, 0, 51]), (.iload_n 1, 0, [1]), (.new 9, 0, [1, 3, 4]), (.dup, 0, []), (.sipush 12000, 12000, []), (.invokespecial 26, 0, [111, 1, 3, 8, 0, 100, 0]), (.aastore, 0, [45, 1]), (.iinc 1 1, 1, [1]), (.goto (-28), 0, [31])]
def s472_62 : List E := [(.iconst 0, 0, []), (.istore_n 1, 0, [1]), (.nop, 0, [64])]
def s472_64 : List E := [(.iload_n 1, 0, [1]), (.iconst 4, 4, []), (.if_icmp .ge 35, 0, [101]), (.aload_n 0, 0, [0]), (.getfield 19, 0, [2, 1, 52]), (.iload_n 1, 0, [1]), (.new 17, 0, [3, 7, 5]), (.dup, 0, []), (.invokespecial 29, 0, [481, 3, 7, 9, 0, 100]), (.aastore, 0, [46, 3]), (.aload_n 0, 0, [0]), (.getfield 23, 0, [2, 2, 52]), (.iload_n 1, 0, [1]), (.new 17, 0, [3, 7, 5]), (.dup, 0, []), (.invokespecial 29, 0, [481, 3, 7, 9, 0, 100]), (.aastore, 0, [46, 3]), (.iinc 1 1, 1, [1]), (.goto (-34), 0, [64])]
def s472_101 : List E := [(.return_, 0, [])]
def cd472 : List (Nat × List E) := [(0, s472_0), (31, s472_31), (62, s472_62), (64, s472_64), (101, s472_101)]
theorem l472_0 : lkc cd472 0 = s472_0 := rfl
theorem l472_31 : lkc cd472 31 = s472_31 := rfl
theorem l472_62 : lkc cd472 62 = s472_62 := rfl
theorem l472_64 : lkc cd472 64 = s472_64 := rfl
theorem l472_101 : lkc cd472 101 = s472_101 := rfl
theorem k472 : chkM 472 2 false cd472 = true := by decide +kernel
/- Store.keep()V -/
def s473_0 : List E := [(.iconst 0, 0, []), (.istore_n 1, 0, [1]), (.nop, 0, [2])]
def s473_2 : List E := [(.iload_n 1, 0, [1]), (.iconst 4, 4, []), (.if_icmp .ge 24, 0, [28]), (.aload_n 0, 0, [0]), (.getfield 23, 3, [2, 2, 93, 1]), (.iload_n 1, 0, [1]), (.aaload, 0, [46, 6]), (.aload_n 0, 0, [0]), (.getfield 19, 2, [2, 1, 93, 1]), (.iload_n 1, 0, [1]), (.aaload, 0, [46, 6]), (.invokevirtual 30, 0, [482, 3, 7, 8, 0, 100, 9]), (.iinc 1 1, 1, [1]), (.goto (-23), 0, [2])]
def s473_28 : List E := [(.return_, 0, [])]
def cd473 : List (Nat × List E) := [(0, s473_0), (2, s473_2), (28, s473_28)]
theorem l473_0 : lkc cd473 0 = s473_0 := rfl
theorem l473_2 : lkc cd473 2 = s473_2 := rfl
theorem l473_28 : lkc cd473 28 = s473_28 := rfl
theorem k473 : chkM 473 2 true cd473 = true := by decide +kernel
/- Store.fresh()LFontHouse$Bytes; -/
def s474_0 : List E := [(.iconst 0, 0, []), (.istore_n 1, 0, [1]), (.nop, 0, [2])]
def s474_2 : List E := [(.aload_n 0, 0, [0]), (.getfield 11, 1, [2, 0, 91, 1]), (.iload_n 1, 0, [1]), (.aaload, 0, [45, 2]), (.getfield 34, 0, [1, 3, 3]), (.ifCond .eq 9, 0, [20]), (.iinc 1 1, 1, [1]), (.goto (-15), 0, [2])]
def s474_20 : List E := [(.aload_n 0, 0, [0]), (.getfield 11, 1, [2, 0, 91, 1]), (.iload_n 1, 0, [1]), (.aaload, 0, [45, 2]), (.iconst 1, 1, []), (.putfield 34, 0, [1, 3, 3]), (.aload_n 0, 0, [0]), (.getfield 11, 1, [2, 0, 91, 1]), (.iload_n 1, 0, [1]), (.aaload, 0, [45, 2]), (.invokevirtual 38, 0, [112, 1, 3, 8, 0, 100]), (.aload_n 0, 0, [0]), (.getfield 11, 1, [2, 0, 91, 1]), (.iload_n 1, 0, [1]), (.aaload, 0, [45, 2]), (.areturn, 0, [1, 2])]
def cd474 : List (Nat × List E) := [(0, s474_0), (2, s474_2), (20, s474_20)]
theorem l474_0 : lkc cd474 0 = s474_0 := rfl
theorem l474_2 : lkc cd474 2 = s474_2 := rfl
theorem l474_20 : lkc cd474 20 = s474_20 := rfl
theorem k474 : chkM 474 2 true cd474 = true := by decide +kernel
/- Store.stands(Z)Z -/
def s475_0 : List E := [(.aload_n 0, 0, [0]), (.invokevirtual 67, 0, [476, 2, 5, 66, 0, 100]), (.iload_n 1, 0, [1]), (.ifCond .eq 26, 0, [31]), (.aload_n 0, 0, [0]), (.getfield 48, 0, [2, 3, 0]), (.bipush 40, 40, []), (.if_icmp .gt 17, 0, [31]), (.aload_n 0, 0, [0]), (.getfield 52, 0, [2, 4, 0]), (.sipush 30000, 30000, []), (.if_icmp .gt 7, 0, [31]), (.iconst 1, 1, []), (.goto 4, 0, [32])]
def s475_31 : List E := [(.iconst 0, 0, []), (.nop, 0, [32])]
def s475_32 : List E := [(.istore_n 2, 0, [2]), (.iconst 0, 0, []), (.istore_n 3, 0, [3]), (.nop, 0, [35])]
def s475_35 : List E := [(.iload_n 3, 0, [3]), (.iconst 4, 4, []), (.if_icmp .ge 28, 0, [65]), (.iload_n 2, 0, [2]), (.ifCond .ne 24, 0, [65]), (.aload_n 0, 0, [0]), (.getfield 19, 2, [2, 1, 93, 1]), (.iload_n 3, 0, [3]), (.aaload, 0, [46, 6]), (.aload_n 0, 0, [0]), (.getfield 23, 3, [2, 2, 93, 1]), (.iload_n 3, 0, [3]), (.aaload, 0, [46, 6]), (.invokevirtual 30, 0, [482, 3, 7, 8, 0, 100, 9]), (.iinc 3 1, 1, [3]), (.goto (-27), 0, [35])]
def s475_65 : List E := [(.iload_n 2, 0, [2]), (.ifCond .ne 7, 0, [73]), (.aload_n 0, 0, [0]), (.invokevirtual 67, 0, [476, 2, 5, 66, 0, 100]), (.nop, 0, [73])]
def s475_73 : List E := [(.iload_n 2, 0, [2]), (.ireturn, 0, [1])]
def cd475 : List (Nat × List E) := [(0, s475_0), (31, s475_31), (32, s475_32), (35, s475_35), (65, s475_65), (73, s475_73)]
theorem l475_0 : lkc cd475 0 = s475_0 := rfl
theorem l475_31 : lkc cd475 31 = s475_31 := rfl
theorem l475_32 : lkc cd475 32 = s475_32 := rfl
theorem l475_35 : lkc cd475 35 = s475_35 := rfl
theorem l475_65 : lkc cd475 65 = s475_65 := rfl
theorem l475_73 : lkc cd475 73 = s475_73 := rfl
theorem k475 : chkM 475 2 true cd475 = true := by decide +kernel
/- Store.count()V -/
def s476_0 : List E := [(.aload_n 0, 0, [0]), (.iconst 0, 0, []), (.putfield 48, 0, [2, 3, 0]), (.aload_n 0, 0, [0]), (.iconst 0, 0, []), (.putfield 52, 0, [2, 4, 0]), (.iconst 0, 0, []), (.istore_n 1, 0, [1]), (.nop, 0, [12])]
def s476_12 : List E := [(.iload_n 1, 0, [1]), (.aload_n 0, 0, [0]), (.getfield 11, 1, [2, 0, 91, 1]), (.arraylength, 0, [45]), (.if_icmp .ge 19, 0, [37]), (.aload_n 0, 0, [0]), (.getfield 11, 1, [2, 0, 91, 1]), (.iload_n 1, 0, [1]), (.aaload, 0, [45, 2]), (.iconst 0, 0, []), (.putfield 34, 0, [1, 3, 3]), (.iinc 1 1, 1, [1]), (.goto (-22), 0, [12])]
def s476_37 : List E := [(.iconst 0, 0, []), (.istore_n 1, 0, [1]), (.nop, 0, [39])]
def s476_39 : List E := [(.iload_n 1, 0, [1]), (.iconst 4, 4, []), (.if_icmp .ge 92, 0, [133]), (.aload_n 0, 0, [0]), (.getfield 19, 2, [2, 1, 93, 1]), (.iload_n 1, 0, [1]), (.aaload, 0, [46, 6]), (.astore_n 2, 0, [2]), (.iconst 0, 0, []), (.istore_n 3, 0, [3]), (.nop, 0, [53])]
def s476_53 : List E := [(.aload_n 2, 0, [2]), (.getfield 55, 0, [3, 0, 3]), (.ifCond .eq 70, 0, [127]), (.iload_n 3, 0, [3]), (.aload_n 2, 0, [2]), (.getfield 58, 0, [3, 2, 0]), (.if_icmp .ge 62, 0, [127]), (.aload_n 2, 0, [2]), (.getfield 61, 2, [3, 4, 91, 1]), (.iload_n 3, 0, [3]), (.aaload, 0, [45, 2]), (.getfield 34, 0, [1, 3, 3]), (.ifCond .eq 6, 0, [83]), (.goto 41, 0, [121])]
def s476_83 : List E := [(.aload_n 2, 0, [2]), (.getfield 61, 2, [3, 4, 91, 1]), (.iload_n 3, 0, [3]), (.aaload, 0, [45, 2]), (.iconst 1, 1, []), (.putfield 34, 0, [1, 3, 3]), (.aload_n 0, 0, [0]), (.dup, 0, []), (.getfield 48, 0, [2, 3, 0]), (.iconst 1, 1, []), (.iadd, 0, []), (.putfield 48, 0, [2, 3, 0]), (.aload_n 0, 0, [0]), (.dup, 0, []), (.getfield 52, 0, [2, 4, 0]), (.aload_n 2, 0, [2]), (.getfield 61, 2, [3, 4, 91, 1]), (.iload_n 3, 0, [3]), (.aaload, 0, [45, 2]), (.getfield 64, 0, [1, 1, 0]), (.iadd, 0, []), (.putfield 52, 0, [2, 4, 0]), (.nop, 0, [121])]
def s476_121 : List E := [(.iinc 3 1, 1, [3]), (.goto (-71), 0, [53])]
def s476_127 : List E := [(.iinc 1 1, 1, [1]), (.goto (-91), 0, [39])]
def s476_133 : List E := [(.return_, 0, [])]
def cd476 : List (Nat × List E) := [(0, s476_0), (12, s476_12), (37, s476_37), (39, s476_39), (53, s476_53), (83, s476_83), (121, s476_121), (127, s476_127), (133, s476_133)]
theorem l476_0 : lkc cd476 0 = s476_0 := rfl
theorem l476_12 : lkc cd476 12 = s476_12 := rfl
theorem l476_37 : lkc cd476 37 = s476_37 := rfl
theorem l476_39 : lkc cd476 39 = s476_39 := rfl
theorem l476_53 : lkc cd476 53 = s476_53 := rfl
theorem l476_83 : lkc cd476 83 = s476_83 := rfl
theorem l476_121 : lkc cd476 121 = s476_121 := rfl
theorem l476_127 : lkc cd476 127 = s476_127 := rfl
theorem l476_133 : lkc cd476 133 = s476_133 := rfl
theorem k476 : chkM 476 2 true cd476 = true := by decide +kernel
/- Store.fresh(LFontHouse$Bytes;)LFontHouse$Bytes; -/
def s477_0 : List E := [(.aload_n 0, 0, [0]), (.invokevirtual 41, 0, [474, 2, 5, 71, 0, 7]), (.astore_n 2, 0, [2]), (.aload_n 2, 0, [2]), (.aload_n 1, 0, [1]), (.invokevirtual 45, 0, [119, 1, 3, 8, 0, 100, 7]), (.aload_n 2, 0, [2]), (.areturn, 0, [1, 2])]
def cd477 : List (Nat × List E) := [(0, s477_0)]
theorem l477_0 : lkc cd477 0 = s477_0 := rfl
theorem k477 : chkM 477 2 true cd477 = true := by decide +kernel
/- Font.<init>()V -/
def s481_0 : List E := [(.aload_n 0, 0, [0]), (.invokespecial 3, 0, [8]), (.aload_n 0, 0, [0]), (.bipush 16, 16, []), (.newarray .long, 0, [43, 87]), (.putfield 9, 0, [3, 3, 49]), (.aload_n 0, 0, [0]), (.bipush 16, 16, []), (.anewarray 15, 0, [45, 91]), (.putfield 17, 0, [3, 4, 51]), (.return_, 0, [])]
def cd481 : List (Nat × List E) := [(0, s481_0)]
theorem l481_0 : lkc cd481 0 = s481_0 := rfl
theorem k481 : chkM 481 3 false cd481 = true := by decide +kernel
/- Font.become(LFontHouse$Font;)V -/
def s482_0 : List E := [(.aload_n 0, 0, [0]), (.aload_n 1, 0, [1]), (.getfield 21, 0, [3, 0, 3]), (.putfield 21, 0, [3, 0, 3]), (.aload_n 0, 0, [0]), (.aload_n 1, 0, [1]), (.getfield 25, 0, [3, 1, 0]), (.putfield 25, 0, [3, 1, 0]), (.aload_n 0, 0, [0]), (.aload_n 1, 0, [1]), (.getfield 29, 0, [3, 2, 0]), (.putfield 29, 0, [3, 2, 0]), (.aload_n 1, 0, [1]), (.getfield 9, 1, [3, 3, 87, 1]), (.iconst 0, 0, []), (.aload_n 0, 0, [0]), (.getfield 9, 1, [3, 3, 87, 1]), (.iconst 0, 0, []), (.bipush 16, 16, []), (.invokestatic 32, 0, [43, 0]), (.aload_n 1, 0, [1]), (.getfield 17, 2, [3, 4, 91, 1]), (.iconst 0, 0, []), (.aload_n 0, 0, [0]), (.getfield 17, 2, [3, 4, 91, 1]), (.iconst 0, 0, []), (.bipush 16, 16, []), (.invokestatic 32, 0, [45, 0]), (.return_, 0, [])]
def cd482 : List (Nat × List E) := [(0, s482_0)]
theorem l482_0 : lkc cd482 0 = s482_0 := rfl
theorem k482 : chkM 482 3 true cd482 = true := by decide +kernel
/- Font.begin(I)V -/
def s483_0 : List E := [(.aload_n 0, 0, [0]), (.iconst 1, 1, []), (.putfield 21, 0, [3, 0, 3]), (.aload_n 0, 0, [0]), (.iload_n 1, 0, [1]), (.putfield 25, 0, [3, 1, 0]), (.aload_n 0, 0, [0]), (.iconst 0, 0, []), (.putfield 29, 0, [3, 2, 0]), (.return_, 0, [])]
def cd483 : List (Nat × List E) := [(0, s483_0)]
theorem l483_0 : lkc cd483 0 = s483_0 := rfl
theorem k483 : chkM 483 3 true cd483 = true := by decide +kernel
/- Font.put(JLFontHouse$Bytes;)Z -/
def s484_0 : List E := [(.iconst 0, 0, []), (.istore 4, 0, [4]), (.nop, 0, [3])]
def s484_3 : List E := [(.iload 4, 0, [4]), (.aload_n 0, 0, [0]), (.getfield 29, 0, [3, 2, 0]), (.if_icmp .ge 21, 0, [30]), (.aload_n 0, 0, [0]), (.getfield 9, 1, [3, 3, 87, 1]), (.iload 4, 0, [4]), (.laload, 0, []), (.lload_n 1, 0, [1]), (.lcmp, 0, []), (.ifCond .ge 9, 0, [30]), (.iinc 4 1, 1, [4]), (.goto (-24), 0, [3])]
def s484_30 : List E := [(.iload 4, 0, [4]), (.aload_n 0, 0, [0]), (.getfield 29, 0, [3, 2, 0]), (.if_icmp .ge 25, 0, [61]), (.aload_n 0, 0, [0]), (.getfield 9, 1, [3, 3, 87, 1]), (.iload 4, 0, [4]), (.laload, 0, []), (.lload_n 1, 0, [1]), (.lcmp, 0, []), (.ifCond .ne 13, 0, [61]), (.aload_n 0, 0, [0]), (.getfield 17, 2, [3, 4, 91, 1]), (.iload 4, 0, [4]), (.aload_n 3, 0, [3]), (.aastore, 0, [45, 1]), (.iconst 1, 1, []), (.ireturn, 0, [1])]
def s484_61 : List E := [(.aload_n 0, 0, [0]), (.getfield 29, 0, [3, 2, 0]), (.bipush 16, 16, []), (.if_icmp .ne 5, 0, [72]), (.iconst 0, 0, []), (.ireturn, 0, [1])]
def s484_72 : List E := [(.aload_n 0, 0, [0]), (.getfield 29, 0, [3, 2, 0]), (.istore 5, 0, [5]), (.nop, 0, [78])]
def s484_78 : List E := [(.iload 5, 0, [5]), (.iload 4, 0, [4]), (.if_icmp .le 41, 0, [123]), (.aload_n 0, 0, [0]), (.getfield 9, 1, [3, 3, 87, 1]), (.iload 5, 0, [5]), (.aload_n 0, 0, [0]), (.getfield 9, 1, [3, 3, 87, 1]), (.iload 5, 0, [5]), (.iconst 1, 1, []), (.isub, 0, []), (.laload, 0, []), (.lastore, 0, []), (.aload_n 0, 0, [0]), (.getfield 17, 2, [3, 4, 91, 1]), (.iload 5, 0, [5]), (.aload_n 0, 0, [0]), (.getfield 17, 2, [3, 4, 91, 1]), (.iload 5, 0, [5]), (.iconst 1, 1, []), (.isub, 0, []), (.aaload, 0, [45, 2]), (.aastore, 0, [45, 1]), (.iinc 5 (-1), -1, [5]), (.goto (-42), 0, [78])]
def s484_123 : List E := [(.aload_n 0, 0, [0]), (.getfield 9, 1, [3, 3, 87, 1]), (.iload 4, 0, [4]), (.lload_n 1, 0, [1]), (.lastore, 0, []), (.aload_n 0, 0, [0]), (.getfield 17, 2, [3, 4, 91, 1]), (.iload 4, 0, [4]), (.aload_n 3, 0, [3]), (.aastore, 0, [45, 1]), (.aload_n 0, 0, [0]), (.dup, 0, []), (.getfield 29, 0, [3, 2, 0]), (.iconst 1, 1, []), (.iadd, 0, []), (.putfield 29, 0, [3, 2, 0]), (.iconst 1, 1, []), (.ireturn, 0, [1])]
def cd484 : List (Nat × List E) := [(0, s484_0), (3, s484_3), (30, s484_30), (61, s484_61), (72, s484_72), (78, s484_78), (123, s484_123)]
theorem l484_0 : lkc cd484 0 = s484_0 := rfl
theorem l484_3 : lkc cd484 3 = s484_3 := rfl
theorem l484_30 : lkc cd484 30 = s484_30 := rfl
theorem l484_61 : lkc cd484 61 = s484_61 := rfl
theorem l484_72 : lkc cd484 72 = s484_72 := rfl
theorem l484_78 : lkc cd484 78 = s484_78 := rfl
theorem l484_123 : lkc cd484 123 = s484_123 := rfl
theorem k484 : chkM 484 3 true cd484 = true := by decide +kernel
/- Font.find(J)I -/
def s485_0 : List E := [(.iconst 0, 0, []), (.istore_n 3, 0, [3]), (.nop, 0, [2])]
def s485_2 : List E := [(.iload_n 3, 0, [3]), (.aload_n 0, 0, [0]), (.getfield 29, 0, [3, 2, 0]), (.if_icmp .ge 20, 0, [27]), (.aload_n 0, 0, [0]), (.getfield 9, 1, [3, 3, 87, 1]), (.iload_n 3, 0, [3]), (.laload, 0, []), (.lload_n 1, 0, [1]), (.lcmp, 0, []), (.ifCond .eq 9, 0, [27]), (.iinc 3 1, 1, [3]), (.goto (-22), 0, [2])]
def s485_27 : List E := [(.iload_n 3, 0, [3]), (.aload_n 0, 0, [0]), (.getfield 29, 0, [3, 2, 0]), (.if_icmp .ne 7, 0, [39]), (.iconst (-1), -1, []), (.goto 4, 0, [40])]
def s485_39 : List E := [(.iload_n 3, 0, [3]), (.nop, 0, [40])]
def s485_40 : List E := [(.ireturn, 0, [])]
def cd485 : List (Nat × List E) := [(0, s485_0), (2, s485_2), (27, s485_27), (39, s485_39), (40, s485_40)]
theorem l485_0 : lkc cd485 0 = s485_0 := rfl
theorem l485_2 : lkc cd485 2 = s485_2 := rfl
theorem l485_27 : lkc cd485 27 = s485_27 := rfl
theorem l485_39 : lkc cd485 39 = s485_39 := rfl
theorem l485_40 : lkc cd485 40 = s485_40 := rfl
theorem k485 : chkM 485 3 true cd485 = true := by decide +kernel
/- Font.remove(I)V -/
def s486_0 : List E := [(.aload_n 0, 0, [0]), (.dup, 0, []), (.getfield 29, 0, [3, 2, 0]), (.iconst 1, 1, []), (.isub, 0, []), (.putfield 29, 0, [3, 2, 0]), (.iload_n 1, 0, [1]), (.istore_n 2, 0, [2]), (.nop, 0, [12])]
def s486_12 : List E := [(.iload_n 2, 0, [2]), (.aload_n 0, 0, [0]), (.getfield 29, 0, [3, 2, 0]), (.if_icmp .ge 37, 0, [54]), (.aload_n 0, 0, [0]), (.getfield 9, 1, [3, 3, 87, 1]), (.iload_n 2, 0, [2]), (.aload_n 0, 0, [0]), (.getfield 9, 1, [3, 3, 87, 1]), (.iload_n 2, 0, [2]), (.iconst 1, 1, []), (.iadd, 0, []), (.laload, 0, []), (.lastore, 0, []), (.aload_n 0, 0, [0]), (.getfield 17, 2, [3, 4, 91, 1]), (.iload_n 2, 0, [2]), (.aload_n 0, 0, [0]), (.getfield 17, 2, [3, 4, 91, 1]), (.iload_n 2, 0, [2]), (.iconst 1, 1, []), (.iadd, 0, []), (.aaload, 0, [45, 2]), (.aastore, 0, [45, 1]), (.iinc 2 1, 1, [2]), (.goto (-39), 0, [12])]
def s486_54 : List E := [(.return_, 0, [])]
def cd486 : List (Nat × List E) := [(0, s486_0), (12, s486_12), (54, s486_54)]
theorem l486_0 : lkc cd486 0 = s486_0 := rfl
theorem l486_12 : lkc cd486 12 = s486_12 := rfl
theorem l486_54 : lkc cd486 54 = s486_54 := rfl
theorem k486 : chkM 486 3 true cd486 = true := by decide +kernel
/- Font.body(J)LFontHouse$Bytes; -/
def s487_0 : List E := [(.aload_n 0, 0, [0]), (.lload_n 1, 0, [1]), (.invokevirtual 38, 0, [485, 3, 7, 8, 0, 0, 5]), (.istore_n 3, 0, [3]), (.iload_n 3, 0, [3]), (.ifCond .ge 7, 0, [14]), (.aconst_null, 0, [2]), (.goto 9, 0, [20])]
def s487_14 : List E := [(.aload_n 0, 0, [0]), (.getfield 17, 2, [3, 4, 91, 1]), (.iload_n 3, 0, [3]), (.aaload, 0, [45, 2]), (.nop, 0, [20])]
def s487_20 : List E := [(.areturn, 0, [1, 2])]
def cd487 : List (Nat × List E) := [(0, s487_0), (14, s487_14), (20, s487_20)]
theorem l487_0 : lkc cd487 0 = s487_0 := rfl
theorem l487_14 : lkc cd487 14 = s487_14 := rfl
theorem l487_20 : lkc cd487 20 = s487_20 := rfl
theorem k487 : chkM 487 3 true cd487 = true := by decide +kernel
/- Font.packed()I -/
def s488_0 : List E := [(.aload_n 0, 0, [0]), (.getfield 29, 0, [3, 2, 0]), (.aload_n 0, 0, [0]), (.getstatic 42, 1146308935, [6]), (.invokevirtual 38, 0, [485, 3, 7, 8, 0, 0, 5]), (.ifCond .ge 7, 0, [18]), (.iconst 0, 0, []), (.goto 4, 0, [19])]
def s488_18 : List E := [(.iconst 1, 1, []), (.nop, 0, [19])]
def s488_19 : List E := [(.isub, 0, []), (.ireturn, 0, [])]
def cd488 : List (Nat × List E) := [(0, s488_0), (18, s488_18), (19, s488_19)]
theorem l488_0 : lkc cd488 0 = s488_0 := rfl
theorem l488_18 : lkc cd488 18 = s488_18 := rfl
theorem l488_19 : lkc cd488 19 = s488_19 := rfl
theorem k488 : chkM 488 3 true cd488 = true := by decide +kernel
/- Codes.<init>(II)V -/
def s515_0 : List E := [(.aload_n 0, 0, [0]), (.invokespecial 1, 0, [8]), (.aload_n 0, 0, [0]), (.iload_n 2, 0, [2]), (.putfield 7, 0, [5, 0, 0]), (.aload_n 0, 0, [0]), (.bipush 16, 16, []), (.iload_n 1, 0, [1]), (.imul, 0, []), (.newarray .int, 0, [40, 81]), (.putfield 13, 0, [5, 1, 46]), (.aload_n 0, 0, [0]), (.iload_n 2, 0, [2]), (.iload_n 1, 0, [1]), (.imul, 0, []), (.newarray .int, 0, [40, 81]), (.putfield 17, 0, [5, 2, 46]), (.return_, 0, [])]
def cd515 : List (Nat × List E) := [(0, s515_0)]
theorem l515_0 : lkc cd515 0 = s515_0 := rfl
theorem k515 : chkM 515 5 false cd515 = true := by decide +kernel
/- Codes.alone(II)V -/
def s516_0 : List E := [(.aload_n 0, 0, [0]), (.iload_n 1, 0, [1]), (.invokevirtual 20, 0, [517, 5, 11, 8, 0, 100, 0]), (.aload_n 0, 0, [0]), (.getfield 13, 1, [5, 1, 81, 1]), (.bipush 16, 16, []), (.iload_n 1, 0, [1]), (.imul, 0, []), (.iconst 1, 1, []), (.iastore, 0, []), (.aload_n 0, 0, [0]), (.getfield 17, 2, [5, 2, 81, 1]), (.aload_n 0, 0, [0]), (.getfield 7, 0, [5, 0, 0]), (.iload_n 1, 0, [1]), (.imul, 0, []), (.iload_n 2, 0, [2]), (.iastore, 0, []), (.return_, 0, [])]
def cd516 : List (Nat × List E) := [(0, s516_0)]
theorem l516_0 : lkc cd516 0 = s516_0 := rfl
theorem k516 : chkM 516 5 true cd516 = true := by decide +kernel
/- Codes.clear(I)V -/
def s517_0 : List E := [(.iconst 0, 0, []), (.istore_n 2, 0, [2]), (.nop, 0, [2])]
def s517_2 : List E := [(.iload_n 2, 0, [2]), (.bipush 16, 16, []), (.if_icmp .ge 21, 0, [26]), (.aload_n 0, 0, [0]), (.getfield 13, 1, [5, 1, 81, 1]), (.bipush 16, 16, []), (.iload_n 1, 0, [1]), (.imul, 0, []), (.iload_n 2, 0, [2]), (.iadd, 0, []), (.iconst 0, 0, []), (.iastore, 0, []), (.iinc 2 1, 1, [2]), (.goto (-21), 0, [2])]
def s517_26 : List E := [(.return_, 0, [])]
def cd517 : List (Nat × List E) := [(0, s517_0), (2, s517_2), (26, s517_26)]
theorem l517_0 : lkc cd517 0 = s517_0 := rfl
theorem l517_2 : lkc cd517 2 = s517_2 := rfl
theorem l517_26 : lkc cd517 26 = s517_26 := rfl
theorem k517 : chkM 517 5 true cd517 = true := by decide +kernel
/- Codes.make(I[II)V -/
def s518_0 : List E := [(.aload_n 0, 0, [0]), (.iload_n 1, 0, [1]), (.invokevirtual 20, 0, [517, 5, 11, 8, 0, 100, 0]), (.aload_n 0, 0, [0]), (.getfield 7, 0, [5, 0, 0]), (.iload_n 1, 0, [1]), (.imul, 0, []), (.istore 4, 0, [4]), (.iconst 1, 1, []), (.istore 5, 0, [5]), (.nop, 0, [16])]
def s518_16 : List E := [(.iload 5, 0, [5]), (.bipush 16, 16, []), (.if_icmp .ge 64, 0, [84]), (.iconst 0, 0, []), (.istore 6, 0, [6]), (.nop, 0, [26])]
def s518_26 : List E := [(.iload 6, 0, [6]), (.iload_n 3, 0, [3]), (.if_icmp .ge 49, 0, [78]), (.aload_n 2, 0, [2]), (.iload 6, 0, [6]), (.iaload, 0, []), (.iload 5, 0, [5]), (.if_icmp .eq 6, 0, [44]), (.goto 31, 0, [72])]
def s518_44 : List E := [(.aload_n 0, 0, [0]), (.getfield 17, 2, [5, 2, 81, 1]), (.iload 4, 0, [4]), (.iinc 4 1, 1, [4]), (.iload 6, 0, [6]), (.iastore, 0, []), (.aload_n 0, 0, [0]), (.getfield 13, 1, [5, 1, 81, 1]), (.bipush 16, 16, []), (.iload_n 1, 0, [1]), (.imul, 0, []), (.iload 5, 0, [5]), (.iadd, 0, []), (.dup2, 0, []), (.iaload, 0, []), (.iconst 1, 1, []), (.iadd, 0, []), (.iastore, 0, []), (.nop, 0, [72])]
def s518_72 : List E := [(.iinc 6 1, 1, [6]), (.goto (-49), 0, [26])]
def s518_78 : List E := [(.iinc 5 1, 1, [5]), (.goto (-65), 0, [16])]
def s518_84 : List E := [(.return_, 0, [])]
def cd518 : List (Nat × List E) := [(0, s518_0), (16, s518_16), (26, s518_26), (44, s518_44), (72, s518_72), (78, s518_78), (84, s518_84)]
theorem l518_0 : lkc cd518 0 = s518_0 := rfl
theorem l518_16 : lkc cd518 16 = s518_16 := rfl
theorem l518_26 : lkc cd518 26 = s518_26 := rfl
theorem l518_44 : lkc cd518 44 = s518_44 := rfl
theorem l518_72 : lkc cd518 72 = s518_72 := rfl
theorem l518_78 : lkc cd518 78 = s518_78 := rfl
theorem l518_84 : lkc cd518 84 = s518_84 := rfl
theorem k518 : chkM 518 5 true cd518 = true := by decide +kernel
/- Codes.read(LFontHouse$Opener;I)I -/
def s519_0 : List E := [(.aload_n 0, 0, [0]), (.getfield 13, 1, [5, 1, 81, 1]), (.bipush 16, 16, []), (.iload_n 2, 0, [2]), (.imul, 0, []), (.iaload, 0, []), (.iconst 1, 1, []), (.if_icmp .ne 15, 0, [25]), (.aload_n 0, 0, [0]), (.getfield 17, 2, [5, 2, 81, 1]), (.aload_n 0, 0, [0]), (.getfield 7, 0, [5, 0, 0]), (.iload_n 2, 0, [2]), (.imul, 0, []), (.iaload, 0, []), (.ireturn, 0, [])]
def s519_25 : List E := [(.iconst 0, 0, []), (.istore_n 3, 0, [3]), (.iconst 0, 0, []), (.istore 4, 0, [4]), (.aload_n 0, 0, [0]), (.getfield 7, 0, [5, 0, 0]), (.iload_n 2, 0, [2]), (.imul, 0, []), (.istore 5, 0, [5]), (.iconst 1, 1, []), (.istore 6, 0, [6]), (.nop, 0, [41])]
def s519_41 : List E := [(.iload 6, 0, [6]), (.bipush 16, 16, []), (.if_icmp .ge 73, 0, [118]), (.iload_n 3, 0, [3]), (.aload_n 1, 0, [1]), (.iconst 1, 1, []), (.invokevirtual 24, 0, [493, 4, 9, 8, 0, 0, 0]), (.iadd, 0, []), (.istore_n 3, 0, [3]), (.aload_n 0, 0, [0]), (.getfield 13, 1, [5, 1, 81, 1]), (.bipush 16, 16, []), (.iload_n 2, 0, [2]), (.imul, 0, []), (.iload 6, 0, [6]), (.iadd, 0, []), (.iaload, 0, []), (.istore 7, 0, [7]), (.iload_n 3, 0, [3]), (.iload 4, 0, [4]), (.isub, 0, []), (.iload 7, 0, [7]), (.if_icmp .ge 16, 0, [92]), (.aload_n 0, 0, [0]), (.getfield 17, 2, [5, 2, 81, 1]), (.iload 5, 0, [5]), (.iload_n 3, 0, [3]), (.iadd, 0, []), (.iload 4, 0, [4]), (.isub, 0, []), (.iaload, 0, []), (.ireturn, 0, [])]
def s519_92 : List E := [(.iload 5, 0, [5]), (.iload 7, 0, [7]), (.iadd, 0, []), (.istore 5, 0, [5]), (.iload 4, 0, [4]), (.iload 7, 0, [7]), (.iadd, 0, []), (.iconst 1, 1, []), (.ishl, 0, []), (.istore 4, 0, [4]), (.iload_n 3, 0, [3]), (.iconst 1, 1, []), (.ishl, 0, []), (.istore_n 3, 0, [3]), (.iinc 6 1, 1, [6]), (.goto (-74), 0, [41])]
def s519_118 : List E := [(.aload_n 1, 0, [1]), (.iconst 1, 1, []), (.invokevirtual 30, 0, [494, 4, 9, 31, 0, 23, 0]), (.athrow, 0, [])]
def cd519 : List (Nat × List E) := [(0, s519_0), (25, s519_25), (41, s519_41), (92, s519_92), (118, s519_118)]
theorem l519_0 : lkc cd519 0 = s519_0 := rfl
theorem l519_25 : lkc cd519 25 = s519_25 := rfl
theorem l519_41 : lkc cd519 41 = s519_41 := rfl
theorem l519_92 : lkc cd519 92 = s519_92 := rfl
theorem l519_118 : lkc cd519 118 = s519_118 := rfl
theorem k519 : chkM 519 5 true cd519 = true := by decide +kernel
/- Bits.<init>()V -/
def s551_0 : List E := [(.aload_n 0, 0, [0]), (.invokespecial 1, 0, [8]), (.return_, 0, [])]
def cd551 : List (Nat × List E) := [(0, s551_0)]
theorem l551_0 : lkc cd551 0 = s551_0 := rfl
theorem k551 : chkM 551 7 false cd551 = true := by decide +kernel
/- Bits.begin(LFontHouse$Bytes;)V -/
def s552_0 : List E := [(.aload_n 0, 0, [0]), (.aload_n 1, 0, [1]), (.putfield 7, 0, [7, 0, 7]), (.aload_n 1, 0, [1]), (.invokevirtual 13, 0, [112, 1, 3, 8, 0, 100]), (.aload_n 0, 0, [0]), (.iconst 0, 0, []), (.putfield 18, 0, [7, 1, 0]), (.aload_n 0, 0, [0]), (.iconst 0, 0, []), (.putfield 22, 0, [7, 2, 0]), (.return_, 0, [])]
def cd552 : List (Nat × List E) := [(0, s552_0)]
theorem l552_0 : lkc cd552 0 = s552_0 := rfl
theorem k552 : chkM 552 7 true cd552 = true := by decide +kernel
/- Bits.number(II)V -/
def s553_0 : List E := [(.iconst 0, 0, []), (.istore_n 3, 0, [3]), (.nop, 0, [2])]
def s553_2 : List E := [(.iload_n 3, 0, [3]), (.iload_n 2, 0, [2]), (.if_icmp .ge 68, 0, [72]), (.aload_n 0, 0, [0]), (.dup, 0, []), (.getfield 18, 0, [7, 1, 0]), (.iload_n 1, 0, [1]), (.iload_n 3, 0, [3]), (.iushr, 0, []), (.iconst 1, 1, []), (.iand, 0, []), (.aload_n 0, 0, [0]), (.getfield 22, 0, [7, 2, 0]), (.ishl, 0, []), (.ior, 0, []), (.putfield 18, 0, [7, 1, 0]), (.aload_n 0, 0, [0]), (.dup, 0, []), (.getfield 22, 0, [7, 2, 0]), (.iconst 1, 1, []), (.iadd, 0, []), (.dup_x1, 0, []), (.putfield 22, 0, [7, 2, 0]), (.bipush 8, 8, []), (.if_icmp .ge 6, 0, [45]), (.goto 24, 0, [66])]
def s553_45 : List E := [(.aload_n 0, 0, [0]), (.getfield 7, 0, [7, 0, 7]), (.aload_n 0, 0, [0]), (.getfield 18, 0, [7, 1, 0]), (.invokevirtual 25, 0, [113, 1, 3, 8, 0, 100, 0]), (.aload_n 0, 0, [0]), (.iconst 0, 0, []), (.putfield 18, 0, [7, 1, 0]), (.aload_n 0, 0, [0]), (.iconst 0, 0, []), (.putfield 22, 0, [7, 2, 0]), (.nop, 0, [66])]
def s553_66 : List E := [(.iinc 3 1, 1, [3]), (.goto (-67), 0, [2])]
def s553_72 : List E := [(.return_, 0, [])]
def cd553 : List (Nat × List E) := [(0, s553_0), (2, s553_2), (45, s553_45), (66, s553_66), (72, s553_72)]
theorem l553_0 : lkc cd553 0 = s553_0 := rfl
theorem l553_2 : lkc cd553 2 = s553_2 := rfl
theorem l553_45 : lkc cd553 45 = s553_45 := rfl
theorem l553_66 : lkc cd553 66 = s553_66 := rfl
theorem l553_72 : lkc cd553 72 = s553_72 := rfl
theorem k553 : chkM 553 7 true cd553 = true := by decide +kernel
/- Bits.align()V -/
def s554_0 : List E := [(.aload_n 0, 0, [0]), (.getfield 22, 0, [7, 2, 0]), (.ifCond .le 15, 0, [19]), (.aload_n 0, 0, [0]), (.iconst 0, 0, []), (.bipush 8, 8, []), (.aload_n 0, 0, [0]), (.getfield 22, 0, [7, 2, 0]), (.isub, 0, []), (.invokevirtual 29, 0, [553, 7, 15, 8, 0, 100, 0, 0]), (.nop, 0, [19])]
def s554_19 : List E := [(.return_, 0, [])]
def cd554 : List (Nat × List E) := [(0, s554_0), (19, s554_19)]
theorem l554_0 : lkc cd554 0 = s554_0 := rfl
theorem l554_19 : lkc cd554 19 = s554_19 := rfl
theorem k554 : chkM 554 7 true cd554 = true := by decide +kernel
/- Bits.word(II)V -/
def s555_0 : List E := [(.iload_n 2, 0, [2]), (.iconst 1, 1, []), (.isub, 0, []), (.istore_n 3, 0, [3]), (.nop, 0, [4])]
def s555_4 : List E := [(.iload_n 3, 0, [3]), (.ifCond .lt 17, 0, [22]), (.aload_n 0, 0, [0]), (.iload_n 1, 0, [1]), (.iload_n 3, 0, [3]), (.iushr, 0, []), (.iconst 1, 1, []), (.invokevirtual 29, 0, [553, 7, 15, 8, 0, 100, 0, 0]), (.iinc 3 (-1), -1, [3]), (.goto (-15), 0, [4])]
def s555_22 : List E := [(.return_, 0, [])]
def cd555 : List (Nat × List E) := [(0, s555_0), (4, s555_4), (22, s555_22)]
theorem l555_0 : lkc cd555 0 = s555_0 := rfl
theorem l555_4 : lkc cd555 4 = s555_4 := rfl
theorem l555_22 : lkc cd555 22 = s555_22 := rfl
theorem k555 : chkM 555 7 true cd555 = true := by decide +kernel
/- Made.<init>(I)V -/
def s556_0 : List E := [(.aload_n 0, 0, [0]), (.invokespecial 1, 0, [8]), (.aload_n 0, 0, [0]), (.iload_n 1, 0, [1]), (.putfield 7, 0, [8, 3, 0]), (.aload_n 0, 0, [0]), (.iload_n 1, 0, [1]), (.newarray .int, 0, [40, 81]), (.putfield 13, 0, [8, 0, 46]), (.aload_n 0, 0, [0]), (.iload_n 1, 0, [1]), (.newarray .int, 0, [40, 81]), (.putfield 17, 0, [8, 1, 46]), (.aload_n 0, 0, [0]), (.iload_n 1, 0, [1]), (.newarray .int, 0, [40, 81]), (.putfield 20, 0, [8, 2, 46]), (.return_, 0, [])]
def cd556 : List (Nat × List E) := [(0, s556_0)]
theorem l556_0 : lkc cd556 0 = s556_0 := rfl
theorem k556 : chkM 556 8 false cd556 = true := by decide +kernel
/- Made.clear()V -/
def s557_0 : List E := [(.iconst 0, 0, []), (.istore_n 1, 0, [1]), (.nop, 0, [2])]
def s557_2 : List E := [(.iload_n 1, 0, [1]), (.aload_n 0, 0, [0]), (.getfield 7, 0, [8, 3, 0]), (.if_icmp .ge 16, 0, [23]), (.aload_n 0, 0, [0]), (.getfield 13, 1, [8, 0, 81, 1]), (.iload_n 1, 0, [1]), (.iconst 0, 0, []), (.iastore, 0, []), (.iinc 1 1, 1, [1]), (.goto (-18), 0, [2])]
def s557_23 : List E := [(.return_, 0, [])]
def cd557 : List (Nat × List E) := [(0, s557_0), (2, s557_2), (23, s557_23)]
theorem l557_0 : lkc cd557 0 = s557_0 := rfl
theorem l557_2 : lkc cd557 2 = s557_2 := rfl
theorem l557_23 : lkc cd557 23 = s557_23 := rfl
theorem k557 : chkM 557 8 true cd557 = true := by decide +kernel
/- Made.write(LFontHouse$Bits;I)V -/
def s558_0 : List E := [(.aload_n 1, 0, [1]), (.aload_n 0, 0, [0]), (.getfield 20, 3, [8, 2, 81, 1]), (.iload_n 2, 0, [2]), (.iaload, 0, []), (.aload_n 0, 0, [0]), (.getfield 17, 2, [8, 1, 81, 1]), (.iload_n 2, 0, [2]), (.iaload, 0, []), (.invokevirtual 23, 0, [555, 7, 15, 8, 0, 100, 0, 0]), (.return_, 0, [])]
def cd558 : List (Nat × List E) := [(0, s558_0)]
theorem l558_0 : lkc cd558 0 = s558_0 := rfl
theorem k558 : chkM 558 8 true cd558 = true := by decide +kernel
/- Opener.<init>()V -/
def s489_0 : List E := [(.aload_n 0, 0, [0]), (.invokespecial 3, 0, [67]), (.aload_n 0, 0, [0]), (.new 9, 0, [1, 3, 4]), (.dup, 0, []), (.sipush 16000, 16000, []), (.invokespecial 11, 0, [111, 1, 3, 46, 0, 100, 0]), (.putfield 14, 0, [4, 2, 7]), (.aload_n 0, 0, [0]), (.iconst 3, 3, []), (.newarray .int, 0, [40, 81]), (.putfield 20, 0, [4, 5, 46]), (.aload_n 0, 0, [0]), (.iconst 3, 3, []), (.newarray .int, 0, [40, 81]), (.putfield 24, 0, [4, 6, 46]), (.aload_n 0, 0, [0]), (.iconst 3, 3, []), (.newarray .int, 0, [40, 81]), (.putfield 27, 0, [4, 7, 46]), (.aload_n 0, 0, [0]), (.iconst 3, 3, []), (.newarray .int, 0, [40, 81]), (.putfield 30, 0, [4, 8, 46]), (.aload_n 0, 0, [0]), (.new 33, 0, [5, 11, 3]), (.dup, 0, []), (.iconst 3, 3, []), (.sipush 258, 258, []), (.invokespecial 35, 0, [515, 5, 11, 45, 0, 100, 0, 0]), (.putfield 38, 0, [4, 9, 11]), (.aload_n 0, 0, [0]), (.new 33, 0, [5, 11, 3]), (.dup, 0, []), (.iconst 3, 3, []), (.bipush 26, 26, []), (.invokespecial 35, 0, [515, 5, 11, 45, 0, 100, 0, 0]), (.putfield 42, 0, [4, 10, 11]), (.aload_n 0, 0, [0]), (.new 33, 0, [5, 11, 3]), (.dup, 0, []), (.iconst 1, 1, []), (.bipush 18, 18, []), (.invokespecial 35, 0, [515, 5, 11, 45, 0, 100, 0, 0]), (.putfield 45, 0, [4, 11, 11]), (.aload_n 0, 0, [0]), (.new 33, 0, [5, 11, 3]), (.dup, 0, []), (.iconst 1, 1, []), (.sipush 272, 272, []), (.invokespecial 35, 0, [515, 5, 11, 45, 0, 100, 0, 0]), (.putfield 48, 0, [4, 12, 11]), (.aload_n 0, 0, [0]), (.new 33, 0, [5, 11, 3]), (.dup, 0, []), (.sipush 256, 256, []), (.sipush 256, 256, []), (.invokespecial 35, 0, [515, 5, 11, 45, 0, 100, 0, 0]), (.putfield 51, 0, [4, 13, 11]), (.aload_n 0, 0, [0]), (.new 33, 0, [5, 11, 3]), (.dup, 0, []), (.sipush 256, 256, []), (.sipush 704, 704, []), (.invokespecial 35, 0, [515, 5, 11, 45, 0, 100, 0, 0]), (.putfield 54, 0, [4, 14, 11]), (.aload_n 0, 0, [0]), (.new 33, 0, [5, 11, 3]), (.dup, 0, []), (.sipush 256, 256, []), (.sipush 520, 520, []), (.invokespecial 35, 0, [515, 5, 11, 45, 0, 100, 0, 0]), (.putfield 57, 0, [4, 15, 11]), (.aload_n 0, 0, [0]), (.sipush 16384, 16384, []), (.newarray .int, 0, [40, 81]), (.putfield 60, 0, [4, 16, 46]), (.aload_n 0, 0, [0]), (.sipush 1024, 1024, []), (.newarray .int, 0, [40, 81]), (.putfield 63, 0, [4, 17, 46]), (.aload_n 0, 0, [0]), (.sipush 256, 256, []), (.newarray .int, 0, [40, 81]), (.putfield 66, 0, [4, 18, 46]), (.aload_n 0, 0, [0]), (.invokestatic 69, 0, [520, 8, 0, 54]), (.putfield 75, 0, [4, 19, 54]), (.aload_n 0, 0, [0]), (.sipush 704, 704, []), (.newarray .int, 0, [40, 81]), (.putfield 79, 0, [4, 20, 46]), (.aload_n 0, 0, [0]), (.bipush 18, 18, []), (.newarray .int, 0, [40, 81]), (.putfield 82, 0, [4, 21, 46]), (.aload_n 0, 0, [0]), (.iconst 4, 4, []), (.newarray .int, 0, [40, 81]), (.putfield 85, 0, [4, 22, 46]), (.aload_n 0, 0, [0]), (.sipush 256, 256, []), (.newarray .int, 0, [40, 81]), (.putfield 88, 0, [4, 23, 46]), (.aload_n 0, 0, [0]), (.iconst 4, 4, []), (.newarray .int, 0, [40, 81]), (.putfield 91, 0, [4, 24, 46]), (.return_, 0, [])]
def cd489 : List (Nat × List E) := [(0, s489_0)]
theorem l489_0 : lkc cd489 0 = s489_0 := rfl
theorem k489 : chkM 489 4 false cd489 = true := by decide +kernel
/- Opener.open(LFontHouse$Bytes;)V -/
def s490_0 : List E := [(.aload_n 0, 0, [0]), (.aload_n 1, 0, [1]), (.invokevirtual 139, 0, [491, 4, 9, 292, 0, 100, 7]), (.aload_n 0, 0, [0]), (.aload_n 0, 0, [0]), (.invokevirtual 143, 0, [492, 4, 9, 183, 0, 0]), (.putfield 147, 0, [4, 4, 0]), (.iconst 1, 1, []), (.istore_n 2, 0, [2]), (.nop, 0, [15])]
def s490_15 : List E := [(.iload_n 2, 0, [2]), (.ifCond .eq 11, 0, [27]), (.aload_n 0, 0, [0]), (.invokevirtual 150, 0, [495, 4, 9, 8, 0, 3]), (.istore_n 2, 0, [2]), (.goto (-9), 0, [15])]
def s490_27 : List E := [(.aload_n 0, 0, [0]), (.invokevirtual 154, 0, [497, 4, 9, 185, 0, 100]), (.aload_n 0, 0, [0]), (.getfield 96, 0, [4, 3, 0]), (.aload_n 0, 0, [0]), (.getfield 101, 0, [4, 1, 0]), (.if_icmp .ge 10, 0, [49]), (.aload_n 0, 0, [0]), (.bipush 13, 13, []), (.invokevirtual 104, 0, [494, 4, 9, 228, 0, 23, 0]), (.athrow, 0, [])]
def s490_49 : List E := [(.return_, 0, [])]
def cd490 : List (Nat × List E) := [(0, s490_0), (15, s490_15), (27, s490_27), (49, s490_49)]
theorem l490_0 : lkc cd490 0 = s490_0 := rfl
theorem l490_15 : lkc cd490 15 = s490_15 := rfl
theorem l490_27 : lkc cd490 27 = s490_27 := rfl
theorem l490_49 : lkc cd490 49 = s490_49 := rfl
theorem k490 : chkM 490 4 true cd490 = true := by decide +kernel
/- Opener.begin(LFontHouse$Bytes;)V -/
def s491_0 : List E := [(.aload_n 0, 0, [0]), (.aload_n 1, 0, [1]), (.putfield 108, 0, [4, 0, 7]), (.aload_n 0, 0, [0]), (.bipush 8, 8, []), (.aload_n 1, 0, [1]), (.getfield 118, 0, [1, 1, 0]), (.imul, 0, []), (.putfield 101, 0, [4, 1, 0]), (.aload_n 0, 0, [0]), (.getfield 14, 1, [4, 2, 3, 1]), (.invokevirtual 121, 0, [112, 1, 3, 8, 0, 100]), (.aload_n 0, 0, [0]), (.iconst 0, 0, []), (.putfield 96, 0, [4, 3, 0]), (.aload_n 0, 0, [0]), (.getfield 91, 36, [4, 24, 81, 1]), (.iconst 0, 0, []), (.iconst 4, 4, []), (.iastore, 0, []), (.aload_n 0, 0, [0]), (.getfield 91, 36, [4, 24, 81, 1]), (.iconst 1, 1, []), (.bipush 11, 11, []), (.iastore, 0, []), (.aload_n 0, 0, [0]), (.getfield 91, 36, [4, 24, 81, 1]), (.iconst 2, 2, []), (.bipush 15, 15, []), (.iastore, 0, []), (.aload_n 0, 0, [0]), (.getfield 91, 36, [4, 24, 81, 1]), (.iconst 3, 3, []), (.bipush 16, 16, []), (.iastore, 0, []), (.aload_n 0, 0, [0]), (.iconst 0, 0, []), (.putfield 124, 0, [4, 25, 0]), (.aload_n 0, 0, [0]), (.iconst 0, 0, []), (.putfield 127, 0, [4, 26, 0]), (.aload_n 0, 0, [0]), (.iconst 0, 0, []), (.putfield 130, 0, [4, 27, 0]), (.aload_n 0, 0, [0]), (.iconst 0, 0, []), (.putfield 133, 0, [4, 28, 0]), (.aload_n 0, 0, [0]), (.iconst 0, 0, []), (.putfield 136, 0, [4, 29, 0]), (.return_, 0, [])]
def cd491 : List (Nat × List E) := [(0, s491_0)]
theorem l491_0 : lkc cd491 0 = s491_0 := rfl
theorem k491 : chkM 491 4 true cd491 = true := by decide +kernel
/- Opener.readWindow()I -/
def s492_0 : List E := [(.aload_n 0, 0, [0]), (.iconst 1, 1, []), (.invokevirtual 115, 0, [493, 4, 9, 8, 0, 0, 0]), (.ifCond .ne 6, 0, [11]), (.bipush 16, 16, []), (.ireturn, 0, [])]
def s492_11 : List E := [(.aload_n 0, 0, [0]), (.iconst 3, 3, []), (.invokevirtual 115, 0, [493, 4, 9, 8, 0, 0, 0]), (.istore_n 1, 0, [1]), (.iload_n 1, 0, [1]), (.ifCond .le 8, 0, [26]), (.bipush 17, 17, []), (.iload_n 1, 0, [1]), (.iadd, 0, []), (.ireturn, 0, [])]
def s492_26 : List E := [(.aload_n 0, 0, [0]), (.iconst 3, 3, []), (.invokevirtual 115, 0, [493, 4, 9, 8, 0, 0, 0]), (.istore_n 2, 0, [2]), (.iload_n 2, 0, [2]), (.iconst 1, 1, []), (.if_icmp .ne 9, 0, [43]), (.aload_n 0, 0, [0]), (.iconst 2, 2, []), (.invokevirtual 104, 0, [494, 4, 9, 31, 0, 23, 0]), (.athrow, 0, [])]
def s492_43 : List E := [(.iload_n 2, 0, [2]), (.ifCond .ne 8, 0, [52]), (.bipush 17, 17, []), (.goto 7, 0, [56])]
def s492_52 : List E := [(.bipush 8, 8, []), (.iload_n 2, 0, [2]), (.iadd, 0, []), (.nop, 0, [56])]
def s492_56 : List E := [(.ireturn, 0, [])]
def cd492 : List (Nat × List E) := [(0, s492_0), (11, s492_11), (26, s492_26), (43, s492_43), (52, s492_52), (56, s492_56)]
theorem l492_0 : lkc cd492 0 = s492_0 := rfl
theorem l492_11 : lkc cd492 11 = s492_11 := rfl
theorem l492_26 : lkc cd492 26 = s492_26 := rfl
theorem l492_43 : lkc cd492 43 = s492_43 := rfl
theorem l492_52 : lkc cd492 52 = s492_52 := rfl
theorem l492_56 : lkc cd492 56 = s492_56 := rfl
theorem k492 : chkM 492 4 true cd492 = true := by decide +kernel
