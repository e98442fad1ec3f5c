set_option maxRecDepth 100000
/- FontHouse.other(IJI)I -/
def s74_0 : List E := [(.iload_n 1, 0, [1]), (.invokestatic 303, 0, [53, 89, 0, 3, 0]), (.ifCond .eq 11, 0, [15]), (.iload 4, 0, [4]), (.invokestatic 234, 0, [37, 89, 0, 3, 0]), (.ifCond .ne 5, 0, [17]), (.nop, 0, [15])]
def s74_15 : List E := [(.iconst (-1), -1, []), (.ireturn, 0, [])]
def s74_17 : List E := [(.lload_n 2, 0, [2]), (.invokestatic 383, 0, [75, 88, 0, 3, 5]), (.ifCond .ne 6, 0, [27]), (.bipush (-2), -2, []), (.ireturn, 0, [])]
def s74_27 : List E := [(.aload_n 0, 0, [0]), (.iload_n 1, 0, [1]), (.invokevirtual 357, 0, [59, 0, 1, 113, 0, 3, 0]), (.ifCond .ne 6, 0, [38]), (.bipush (-3), -3, []), (.ireturn, 0, [])]
def s74_38 : List E := [(.aload_n 0, 0, [0]), (.getfield 138, 6, [0, 5, 91, 1]), (.iload 4, 0, [4]), (.aaload, 0, [45, 2]), (.getfield 43, 0, [1, 1, 0]), (.sipush 12000, 12000, []), (.if_icmp .le 6, 0, [57]), (.bipush (-4), -4, []), (.ireturn, 0, [])]
def s74_57 : List E := [(.aload_n 0, 0, [0]), (.getfield 99, 7, [0, 6, 5, 1]), (.invokevirtual 306, 0, [473, 2, 5, 32, 0, 100]), (.aload_n 0, 0, [0]), (.getfield 99, 7, [0, 6, 5, 1]), (.getfield 103, 2, [2, 1, 93, 1]), (.iload_n 1, 0, [1]), (.aaload, 0, [46, 6]), (.lload_n 2, 0, [2]), (.aload_n 0, 0, [0]), (.getfield 99, 7, [0, 6, 5, 1]), (.aload_n 0, 0, [0]), (.getfield 138, 6, [0, 5, 91, 1]), (.iload 4, 0, [4]), (.aaload, 0, [45, 2]), (.invokevirtual 387, 0, [477, 2, 5, 8, 0, 7, 7]), (.invokevirtual 324, 0, [484, 3, 7, 109, 0, 3, 7, 5]), (.istore 5, 0, [5]), (.aload_n 0, 0, [0]), (.getfield 99, 7, [0, 6, 5, 1]), (.iload 5, 0, [5]), (.invokevirtual 340, 0, [475, 2, 5, 30, 0, 3, 3]), (.ifCond .eq 18, 0, [120]), (.aload_n 0, 0, [0]), (.getfield 99, 7, [0, 6, 5, 1]), (.getfield 103, 2, [2, 1, 93, 1]), (.iload_n 1, 0, [1]), (.aaload, 0, [46, 6]), (.getfield 29, 0, [3, 2, 0]), (.goto 5, 0, [122])]
def s74_120 : List E := [(.bipush (-4), -4, []), (.nop, 0, [122])]
def s74_122 : List E := [(.ireturn, 0, [])]
def cd74 : List (Nat × List E) := [(0, s74_0), (15, s74_15), (17, s74_17), (27, s74_27), (38, s74_38), (57, s74_57), (120, s74_120), (122, s74_122)]
theorem l74_0 : lkc cd74 0 = s74_0 := rfl
theorem l74_15 : lkc cd74 15 = s74_15 := rfl
theorem l74_17 : lkc cd74 17 = s74_17 := rfl
theorem l74_27 : lkc cd74 27 = s74_27 := rfl
theorem l74_38 : lkc cd74 38 = s74_38 := rfl
theorem l74_57 : lkc cd74 57 = s74_57 := rfl
theorem l74_120 : lkc cd74 120 = s74_120 := rfl
theorem l74_122 : lkc cd74 122 = s74_122 := rfl
theorem k74 : chkM 74 0 true cd74 = true := by decide +kernel
/- FontHouse.isTag(J)Z -/
def s75_0 : List E := [(.lload_n 0, 0, [0]), (.lconst 0, 0, []), (.ldc2_w 226, 4294967295, []), (.invokestatic 219, 0, [38, 8, 0, 3, 5, 5, 5]), (.ireturn, 0, [1])]
def cd75 : List (Nat × List E) := [(0, s75_0)]
theorem l75_0 : lkc cd75 0 = s75_0 := rfl
theorem k75 : chkM 75 0 true cd75 = true := by decide +kernel
/- FontHouse.drop(IJ)I -/
def s76_0 : List E := [(.iload_n 1, 0, [1]), (.invokestatic 303, 0, [53, 9, 0, 3, 0]), (.ifCond .ne 5, 0, [9]), (.iconst (-1), -1, []), (.ireturn, 0, [])]
def s76_9 : List E := [(.lload_n 2, 0, [2]), (.invokestatic 383, 0, [75, 8, 0, 3, 5]), (.ifCond .ne 6, 0, [19]), (.bipush (-2), -2, []), (.ireturn, 0, [])]
def s76_19 : List E := [(.aload_n 0, 0, [0]), (.iload_n 1, 0, [1]), (.invokevirtual 357, 0, [59, 0, 1, 33, 0, 3, 0]), (.ifCond .ne 6, 0, [30]), (.bipush (-3), -3, []), (.ireturn, 0, [])]
def s76_30 : List E := [(.aload_n 0, 0, [0]), (.getfield 99, 7, [0, 6, 5, 1]), (.getfield 103, 2, [2, 1, 93, 1]), (.iload_n 1, 0, [1]), (.aaload, 0, [46, 6]), (.lload_n 2, 0, [2]), (.invokevirtual 390, 0, [485, 3, 7, 31, 0, 0, 5]), (.istore 4, 0, [4]), (.iload 4, 0, [4]), (.ifCond .ge 5, 0, [52]), (.iconst (-1), -1, []), (.ireturn, 0, [])]
def s76_52 : List E := [(.aload_n 0, 0, [0]), (.getfield 99, 7, [0, 6, 5, 1]), (.getfield 103, 2, [2, 1, 93, 1]), (.iload_n 1, 0, [1]), (.aaload, 0, [46, 6]), (.iload 4, 0, [4]), (.invokevirtual 393, 0, [486, 3, 7, 32, 0, 100, 0]), (.aload_n 0, 0, [0]), (.getfield 99, 7, [0, 6, 5, 1]), (.invokevirtual 371, 0, [476, 2, 5, 31, 0, 100]), (.aload_n 0, 0, [0]), (.getfield 99, 7, [0, 6, 5, 1]), (.getfield 103, 2, [2, 1, 93, 1]), (.iload_n 1, 0, [1]), (.aaload, 0, [46, 6]), (.getfield 29, 0, [3, 2, 0]), (.ireturn, 0, [])]
def cd76 : List (Nat × List E) := [(0, s76_0), (9, s76_9), (19, s76_19), (30, s76_30), (52, s76_52)]
theorem l76_0 : lkc cd76 0 = s76_0 := rfl
theorem l76_9 : lkc cd76 9 = s76_9 := rfl
theorem l76_19 : lkc cd76 19 = s76_19 := rfl
theorem l76_30 : lkc cd76 30 = s76_30 := rfl
theorem l76_52 : lkc cd76 52 = s76_52 := rfl
theorem k76 : chkM 76 0 true cd76 = true := by decide +kernel
/- FontHouse.share(IIJ)I -/
def s77_0 : List E := [(.iload_n 1, 0, [1]), (.invokestatic 303, 0, [53, 67, 0, 3, 0]), (.ifCond .eq 10, 0, [14]), (.iload_n 2, 0, [2]), (.invokestatic 303, 0, [53, 67, 0, 3, 0]), (.ifCond .ne 5, 0, [16]), (.nop, 0, [14])]
def s77_14 : List E := [(.iconst (-1), -1, []), (.ireturn, 0, [])]
def s77_16 : List E := [(.lload_n 3, 0, [3]), (.invokestatic 383, 0, [75, 66, 0, 3, 5]), (.ifCond .ne 6, 0, [26]), (.bipush (-2), -2, []), (.ireturn, 0, [])]
def s77_26 : List E := [(.aload_n 0, 0, [0]), (.iload_n 1, 0, [1]), (.invokevirtual 357, 0, [59, 0, 1, 91, 0, 3, 0]), (.ifCond .eq 11, 0, [42]), (.aload_n 0, 0, [0]), (.iload_n 2, 0, [2]), (.invokevirtual 357, 0, [59, 0, 1, 91, 0, 3, 0]), (.ifCond .ne 6, 0, [45]), (.nop, 0, [42])]
def s77_42 : List E := [(.bipush (-3), -3, []), (.ireturn, 0, [])]
def s77_45 : List E := [(.aload_n 0, 0, [0]), (.getfield 99, 7, [0, 6, 5, 1]), (.getfield 103, 2, [2, 1, 93, 1]), (.iload_n 2, 0, [2]), (.aaload, 0, [46, 6]), (.lload_n 3, 0, [3]), (.invokevirtual 396, 0, [487, 3, 7, 66, 0, 7, 5]), (.astore 5, 0, [5]), (.aload 5, 0, [5]), (.ifnonnull 5, 0, [67]), (.iconst (-1), -1, []), (.ireturn, 0, [])]
def s77_67 : List E := [(.aload_n 0, 0, [0]), (.getfield 99, 7, [0, 6, 5, 1]), (.invokevirtual 306, 0, [473, 2, 5, 10, 0, 100]), (.aload_n 0, 0, [0]), (.getfield 99, 7, [0, 6, 5, 1]), (.aload_n 0, 0, [0]), (.getfield 99, 7, [0, 6, 5, 1]), (.getfield 103, 2, [2, 1, 93, 1]), (.iload_n 1, 0, [1]), (.aaload, 0, [46, 6]), (.lload_n 3, 0, [3]), (.aload 5, 0, [5]), (.invokevirtual 324, 0, [484, 3, 7, 87, 0, 3, 7, 5]), (.invokevirtual 340, 0, [475, 2, 5, 8, 0, 3, 3]), (.ifCond .eq 18, 0, [114]), (.aload_n 0, 0, [0]), (.getfield 99, 7, [0, 6, 5, 1]), (.getfield 103, 2, [2, 1, 93, 1]), (.iload_n 1, 0, [1]), (.aaload, 0, [46, 6]), (.getfield 29, 0, [3, 2, 0]), (.goto 5, 0, [116])]
def s77_114 : List E := [(.bipush (-4), -4, []), (.nop, 0, [116])]
def s77_116 : List E := [(.ireturn, 0, [])]
def cd77 : List (Nat × List E) := [(0, s77_0), (14, s77_14), (16, s77_16), (26, s77_26), (42, s77_42), (45, s77_45), (67, s77_67), (114, s77_114), (116, s77_116)]
theorem l77_0 : lkc cd77 0 = s77_0 := rfl
theorem l77_14 : lkc cd77 14 = s77_14 := rfl
theorem l77_16 : lkc cd77 16 = s77_16 := rfl
theorem l77_26 : lkc cd77 26 = s77_26 := rfl
theorem l77_42 : lkc cd77 42 = s77_42 := rfl
theorem l77_45 : lkc cd77 45 = s77_45 := rfl
theorem l77_67 : lkc cd77 67 = s77_67 := rfl
theorem l77_114 : lkc cd77 114 = s77_114 := rfl
theorem l77_116 : lkc cd77 116 = s77_116 := rfl
theorem k77 : chkM 77 0 true cd77 = true := by decide +kernel
/- FontHouse.flavor(II)I -/
def s78_0 : List E := [(.iload_n 1, 0, [1]), (.invokestatic 303, 0, [53, 8, 0, 3, 0]), (.ifCond .ne 5, 0, [9]), (.iconst (-1), -1, []), (.ireturn, 0, [])]
def s78_9 : List E := [(.iload_n 2, 0, [2]), (.ldc 110, 65536, []), (.if_icmp .eq 13, 0, [25]), (.iload_n 2, 0, [2]), (.ldc_w 400, 1330926671, []), (.if_icmp .eq 6, 0, [25]), (.bipush (-2), -2, []), (.ireturn, 0, [])]
def s78_25 : List E := [(.aload_n 0, 0, [0]), (.iload_n 1, 0, [1]), (.invokevirtual 357, 0, [59, 0, 1, 32, 0, 3, 0]), (.ifCond .ne 6, 0, [36]), (.bipush (-3), -3, []), (.ireturn, 0, [])]
def s78_36 : List E := [(.aload_n 0, 0, [0]), (.getfield 99, 7, [0, 6, 5, 1]), (.getfield 103, 2, [2, 1, 93, 1]), (.iload_n 1, 0, [1]), (.aaload, 0, [46, 6]), (.getfield 17, 0, [3, 1, 0]), (.istore_n 3, 0, [3]), (.aload_n 0, 0, [0]), (.getfield 99, 7, [0, 6, 5, 1]), (.getfield 103, 2, [2, 1, 93, 1]), (.iload_n 1, 0, [1]), (.aaload, 0, [46, 6]), (.iload_n 2, 0, [2]), (.putfield 17, 0, [3, 1, 0]), (.iload_n 3, 0, [3]), (.ireturn, 0, [])]
def cd78 : List (Nat × List E) := [(0, s78_0), (9, s78_9), (25, s78_25), (36, s78_36)]
theorem l78_0 : lkc cd78 0 = s78_0 := rfl
theorem l78_9 : lkc cd78 9 = s78_9 := rfl
theorem l78_25 : lkc cd78 25 = s78_25 := rfl
theorem l78_36 : lkc cd78 36 = s78_36 := rfl
theorem k78 : chkM 78 0 true cd78 = true := by decide +kernel
/- FontHouse.check(I)I -/
def s79_0 : List E := [(.iload_n 1, 0, [1]), (.invokestatic 303, 0, [53, 180, 0, 3, 0]), (.ifCond .ne 5, 0, [9]), (.iconst (-1), -1, []), (.ireturn, 0, [])]
def s79_9 : List E := [(.aload_n 0, 0, [0]), (.iload_n 1, 0, [1]), (.invokevirtual 357, 0, [59, 0, 1, 204, 0, 3, 0]), (.ifCond .ne 6, 0, [20]), (.bipush (-3), -3, []), (.ireturn, 0, [])]
def s79_20 : List E := [(.aload_n 0, 0, [0]), (.getfield 168, 348, [0, 10, 21, 1]), (.aload_n 0, 0, [0]), (.getfield 99, 7, [0, 6, 5, 1]), (.getfield 103, 2, [2, 1, 93, 1]), (.iload_n 1, 0, [1]), (.aaload, 0, [46, 6]), (.iconst 1, 1, []), (.invokevirtual 401, 0, [145, 10, 21, 8, 0, 0, 3, 9]), (.istore_n 2, 0, [2]), (.aload_n 0, 0, [0]), (.iload_n 2, 0, [2]), (.ifCond .ne 7, 0, [47]), (.iconst (-1), -1, []), (.goto 10, 0, [54])]
def s79_47 : List E := [(.aload_n 0, 0, [0]), (.getfield 168, 348, [0, 10, 21, 1]), (.getfield 405, 0, [10, 9, 0]), (.nop, 0, [54])]
def s79_54 : List E := [(.putfield 200, 0, [0, 15, 0]), (.iload_n 2, 0, [2]), (.ifCond .ne 7, 0, [65]), (.iconst 0, 0, []), (.goto 7, 0, [69])]
def s79_65 : List E := [(.bipush (-10), -10, []), (.iload_n 2, 0, [2]), (.isub, 0, []), (.nop, 0, [69])]
def s79_69 : List E := [(.ireturn, 0, [])]
def cd79 : List (Nat × List E) := [(0, s79_0), (9, s79_9), (20, s79_20), (47, s79_47), (54, s79_54), (65, s79_65), (69, s79_69)]
theorem l79_0 : lkc cd79 0 = s79_0 := rfl
theorem l79_9 : lkc cd79 9 = s79_9 := rfl
theorem l79_20 : lkc cd79 20 = s79_20 := rfl
theorem l79_47 : lkc cd79 47 = s79_47 := rfl
theorem l79_54 : lkc cd79 54 = s79_54 := rfl
theorem l79_65 : lkc cd79 65 = s79_65 := rfl
theorem l79_69 : lkc cd79 69 = s79_69 := rfl
theorem k79 : chkM 79 0 true cd79 = true := by decide +kernel
/- FontHouse.glyphs(I)I -/
def s80_0 : List E := [(.aload_n 0, 0, [0]), (.iload_n 1, 0, [1]), (.invokevirtual 406, 0, [81, 0, 1, 8, 0, 0, 0]), (.istore_n 2, 0, [2]), (.iload_n 2, 0, [2]), (.ifCond .ge 7, 0, [14]), (.iload_n 2, 0, [2]), (.goto 10, 0, [21])]
def s80_14 : List E := [(.aload_n 0, 0, [0]), (.getfield 168, 348, [0, 10, 21, 1]), (.getfield 409, 0, [10, 0, 0]), (.nop, 0, [21])]
def s80_21 : List E := [(.ireturn, 0, [])]
def cd80 : List (Nat × List E) := [(0, s80_0), (14, s80_14), (21, s80_21)]
theorem l80_0 : lkc cd80 0 = s80_0 := rfl
theorem l80_14 : lkc cd80 14 = s80_14 := rfl
theorem l80_21 : lkc cd80 21 = s80_21 := rfl
theorem k80 : chkM 80 0 true cd80 = true := by decide +kernel
/- FontHouse.noGlyphs(I)I -/
def s81_0 : List E := [(.iload_n 1, 0, [1]), (.invokestatic 303, 0, [53, 180, 0, 3, 0]), (.ifCond .ne 7, 0, [11]), (.iconst (-1), -1, []), (.goto 37, 0, [45])]
def s81_11 : List E := [(.aload_n 0, 0, [0]), (.iload_n 1, 0, [1]), (.invokevirtual 357, 0, [59, 0, 1, 204, 0, 3, 0]), (.ifCond .eq 23, 0, [39]), (.aload_n 0, 0, [0]), (.getfield 168, 348, [0, 10, 21, 1]), (.aload_n 0, 0, [0]), (.getfield 99, 7, [0, 6, 5, 1]), (.getfield 103, 2, [2, 1, 93, 1]), (.iload_n 1, 0, [1]), (.aaload, 0, [46, 6]), (.iconst 1, 1, []), (.invokevirtual 401, 0, [145, 10, 21, 8, 0, 0, 3, 9]), (.ifCond .eq 8, 0, [44]), (.nop, 0, [39])]
def s81_39 : List E := [(.bipush (-3), -3, []), (.goto 4, 0, [45])]
def s81_44 : List E := [(.iconst 0, 0, []), (.nop, 0, [45])]
def s81_45 : List E := [(.ireturn, 0, [])]
def cd81 : List (Nat × List E) := [(0, s81_0), (11, s81_11), (39, s81_39), (44, s81_44), (45, s81_45)]
theorem l81_0 : lkc cd81 0 = s81_0 := rfl
theorem l81_11 : lkc cd81 11 = s81_11 := rfl
theorem l81_39 : lkc cd81 39 = s81_39 := rfl
theorem l81_44 : lkc cd81 44 = s81_44 := rfl
theorem l81_45 : lkc cd81 45 = s81_45 := rfl
theorem k81 : chkM 81 0 true cd81 = true := by decide +kernel
/- FontHouse.glyph(III)I -/
def s82_0 : List E := [(.aload_n 0, 0, [0]), (.iload_n 1, 0, [1]), (.iload_n 2, 0, [2]), (.invokevirtual 414, 0, [83, 0, 1, 8, 0, 0, 0, 0]), (.istore 4, 0, [4]), (.iload 4, 0, [4]), (.ifCond .ge 6, 0, [16]), (.iload 4, 0, [4]), (.ireturn, 0, [])]
def s82_16 : List E := [(.aload_n 0, 0, [0]), (.getfield 168, 348, [0, 10, 21, 1]), (.getfield 417, 1, [10, 10, 23, 1]), (.astore 5, 0, [5]), (.iload_n 3, 0, [3]), (.tableswitch 131 0 10 #[58, 64, 70, 131, 131, 131, 131, 79, 88, 97, 117], 0, [157, 84, 90, 96, 157, 157, 157, 157, 105, 114, 123, 143])]
def s82_84 : List E := [(.aload 5, 0, [5]), (.getfield 420, 0, [11, 0, 0]), (.ireturn, 0, [])]
def s82_90 : List E := [(.aload 5, 0, [5]), (.getfield 423, 0, [11, 3, 0]), (.ireturn, 0, [])]
def s82_96 : List E := [(.aload 5, 0, [5]), (.getfield 424, 13, [11, 15, 3, 1]), (.getfield 43, 0, [1, 1, 0]), (.ireturn, 0, [])]
def s82_105 : List E := [(.aload_n 0, 0, [0]), (.getfield 168, 348, [0, 10, 21, 1]), (.iload_n 2, 0, [2]), (.invokevirtual 427, 0, [151, 10, 21, 206, 0, 0, 0]), (.ireturn, 0, [])]
def s82_114 : List E := [(.aload_n 0, 0, [0]), (.getfield 168, 348, [0, 10, 21, 1]), (.iload_n 2, 0, [2]), (.invokevirtual 430, 0, [152, 10, 21, 185, 0, 0, 0]), (.ireturn, 0, [])]
def s82_123 : List E := [(.aload_n 0, 0, [0]), (.getfield 168, 348, [0, 10, 21, 1]), (.iload_n 2, 0, [2]), (.iconst 1, 1, []), (.iadd, 0, []), (.invokevirtual 433, 0, [149, 10, 21, 185, 0, 0, 0]), (.aload_n 0, 0, [0]), (.getfield 168, 348, [0, 10, 21, 1]), (.iload_n 2, 0, [2]), (.invokevirtual 433, 0, [149, 10, 21, 185, 0, 0, 0]), (.isub, 0, []), (.ireturn, 0, [])]
def s82_143 : List E := [(.aload 5, 0, [5]), (.getfield 435, 0, [11, 8, 3]), (.ifCond .eq 7, 0, [155]), (.iconst 1, 1, []), (.goto 4, 0, [156])]
def s82_155 : List E := [(.iconst 0, 0, []), (.nop, 0, [156])]
def s82_156 : List E := [(.ireturn, 0, [])]
def s82_157 : List E := [(.iload_n 3, 0, [3]), (.i2l, 0, []), (.ldc2_w 217, 3, []), (.ldc2_w 296, 6, []), (.invokestatic 219, 0, [38, 244, 0, 3, 5, 5, 5]), (.ifCond .eq 15, 0, [183]), (.aload 5, 0, [5]), (.getfield 438, 1, [11, 1, 81, 1]), (.iload_n 3, 0, [3]), (.iconst 3, 3, []), (.isub, 0, []), (.iaload, 0, []), (.goto 5, 0, [185])]
def s82_183 : List E := [(.bipush (-2), -2, []), (.nop, 0, [185])]
def s82_185 : List E := [(.ireturn, 0, [])]
def cd82 : List (Nat × List E) := [(0, s82_0), (16, s82_16), (84, s82_84), (90, s82_90), (96, s82_96), (105, s82_105), (114, s82_114), (123, s82_123), (143, s82_143), (155, s82_155), (156, s82_156), (157, s82_157), (183, s82_183), (185, s82_185)]
theorem l82_0 : lkc cd82 0 = s82_0 := rfl
theorem l82_16 : lkc cd82 16 = s82_16 := rfl
theorem l82_84 : lkc cd82 84 = s82_84 := rfl
theorem l82_90 : lkc cd82 90 = s82_90 := rfl
theorem l82_96 : lkc cd82 96 = s82_96 := rfl
theorem l82_105 : lkc cd82 105 = s82_105 := rfl
theorem l82_114 : lkc cd82 114 = s82_114 := rfl
theorem l82_123 : lkc cd82 123 = s82_123 := rfl
theorem l82_143 : lkc cd82 143 = s82_143 := rfl
theorem l82_155 : lkc cd82 155 = s82_155 := rfl
theorem l82_156 : lkc cd82 156 = s82_156 := rfl
theorem l82_157 : lkc cd82 157 = s82_157 := rfl
theorem l82_183 : lkc cd82 183 = s82_183 := rfl
theorem l82_185 : lkc cd82 185 = s82_185 := rfl
theorem k82 : chkM 82 0 true cd82 = true := by decide +kernel
/- FontHouse.noGlyph(II)I -/
def s83_0 : List E := [(.aload_n 0, 0, [0]), (.iload_n 1, 0, [1]), (.invokevirtual 406, 0, [81, 0, 1, 8, 0, 0, 0]), (.istore_n 3, 0, [3]), (.iload_n 3, 0, [3]), (.ifCond .ge 5, 0, [12]), (.iload_n 3, 0, [3]), (.ireturn, 0, [])]
def s83_12 : List E := [(.iload_n 2, 0, [2]), (.i2l, 0, []), (.lconst 0, 0, []), (.aload_n 0, 0, [0]), (.getfield 168, 348, [0, 10, 21, 1]), (.getfield 409, 0, [10, 0, 0]), (.iconst 1, 1, []), (.isub, 0, []), (.i2l, 0, []), (.invokestatic 219, 0, [38, 221, 0, 3, 5, 5, 5]), (.ifCond .ne 5, 0, [33]), (.iconst (-1), -1, []), (.ireturn, 0, [])]
def s83_33 : List E := [(.aload_n 0, 0, [0]), (.getfield 168, 348, [0, 10, 21, 1]), (.iload_n 2, 0, [2]), (.invokevirtual 412, 0, [150, 10, 21, 74, 0, 3, 0]), (.pop, 0, []), (.iconst 0, 0, []), (.ireturn, 0, [])]
def cd83 : List (Nat × List E) := [(0, s83_0), (12, s83_12), (33, s83_33)]
theorem l83_0 : lkc cd83 0 = s83_0 := rfl
theorem l83_12 : lkc cd83 12 = s83_12 := rfl
theorem l83_33 : lkc cd83 33 = s83_33 := rfl
theorem k83 : chkM 83 0 true cd83 = true := by decide +kernel
/- FontHouse.point(IIII)I -/
def s84_0 : List E := [(.aload_n 0, 0, [0]), (.iload_n 1, 0, [1]), (.iload_n 2, 0, [2]), (.invokevirtual 414, 0, [83, 0, 1, 8, 0, 0, 0, 0]), (.istore 5, 0, [5]), (.iload 5, 0, [5]), (.ifCond .ge 6, 0, [16]), (.iload 5, 0, [5]), (.ireturn, 0, [])]
def s84_16 : List E := [(.aload_n 0, 0, [0]), (.getfield 168, 348, [0, 10, 21, 1]), (.getfield 417, 1, [10, 10, 23, 1]), (.astore 6, 0, [6]), (.aload 6, 0, [6]), (.getfield 420, 0, [11, 0, 0]), (.ifCond .gt 6, 0, [36]), (.bipush (-3), -3, []), (.ireturn, 0, [])]
def s84_36 : List E := [(.iload_n 3, 0, [3]), (.i2l, 0, []), (.lconst 0, 0, []), (.aload 6, 0, [6]), (.getfield 423, 0, [11, 3, 0]), (.iconst 1, 1, []), (.isub, 0, []), (.i2l, 0, []), (.invokestatic 219, 0, [38, 244, 0, 3, 5, 5, 5]), (.ifCond .eq 16, 0, [66]), (.iload 4, 0, [4]), (.i2l, 0, []), (.lconst 0, 0, []), (.ldc2_w 217, 3, []), (.invokestatic 219, 0, [38, 244, 0, 3, 5, 5, 5]), (.ifCond .ne 6, 0, [69]), (.nop, 0, [66])]
def s84_66 : List E := [(.bipush (-2), -2, []), (.ireturn, 0, [])]
def s84_69 : List E := [(.iload 4, 0, [4]), (.iconst 2, 2, []), (.if_icmp .ge 26, 0, [98]), (.iload 4, 0, [4]), (.ifCond .ne 13, 0, [90]), (.aload 6, 0, [6]), (.getfield 441, 2, [11, 4, 81, 1]), (.iload_n 3, 0, [3]), (.iaload, 0, []), (.goto 10, 0, [97])]
def s84_90 : List E := [(.aload 6, 0, [6]), (.getfield 444, 3, [11, 5, 81, 1]), (.iload_n 3, 0, [3]), (.iaload, 0, []), (.nop, 0, [97])]
def s84_97 : List E := [(.ireturn, 0, [])]
def s84_98 : List E := [(.iload 4, 0, [4]), (.iconst 2, 2, []), (.if_icmp .ne 19, 0, [120]), (.aload 6, 0, [6]), (.getfield 447, 4, [11, 6, 89, 1]), (.iload_n 3, 0, [3]), (.baload, 0, [44]), (.ifCond .eq 7, 0, [118]), (.iconst 1, 1, []), (.goto 4, 0, [119])]
def s84_118 : List E := [(.iconst 0, 0, []), (.nop, 0, [119])]
def s84_119 : List E := [(.ireturn, 0, [])]
def s84_120 : List E := [(.iconst 0, 0, []), (.istore 7, 0, [7]), (.iconst 0, 0, []), (.istore 8, 0, [8]), (.nop, 0, [126])]
def s84_126 : List E := [(.iload 8, 0, [8]), (.aload 6, 0, [6]), (.getfield 420, 0, [11, 0, 0]), (.if_icmp .ge 31, 0, [164]), (.iload 7, 0, [7]), (.aload 6, 0, [6]), (.getfield 451, 5, [11, 7, 81, 1]), (.iload 8, 0, [8]), (.iaload, 0, []), (.iload_n 3, 0, [3]), (.if_icmp .ne 7, 0, [154]), (.iconst 1, 1, []), (.goto 4, 0, [155])]
def s84_154 : List E := [(.iconst 0, 0, []), (.nop, 0, [155])]
def s84_155 : List E := [(.ior, 0, []), (.istore 7, 0, [7]), (.iinc 8 1, 1, [8]), (.goto (-35), 0, [126])]
def s84_164 : List E := [(.iload 7, 0, [7]), (.ifCond .eq 7, 0, [173]), (.iconst 1, 1, []), (.goto 4, 0, [174])]
def s84_173 : List E := [(.iconst 0, 0, []), (.nop, 0, [174])]
def s84_174 : List E := [(.ireturn, 0, [])]
def cd84 : List (Nat × List E) := [(0, s84_0), (16, s84_16), (36, s84_36), (66, s84_66), (69, s84_69), (90, s84_90), (97, s84_97), (98, s84_98), (118, s84_118), (119, s84_119), (120, s84_120), (126, s84_126), (154, s84_154), (155, s84_155), (164, s84_164), (173, s84_173), (174, s84_174)]
theorem l84_0 : lkc cd84 0 = s84_0 := rfl
theorem l84_16 : lkc cd84 16 = s84_16 := rfl
theorem l84_36 : lkc cd84 36 = s84_36 := rfl
theorem l84_66 : lkc cd84 66 = s84_66 := rfl
theorem l84_69 : lkc cd84 69 = s84_69 := rfl
theorem l84_90 : lkc cd84 90 = s84_90 := rfl
theorem l84_97 : lkc cd84 97 = s84_97 := rfl
theorem l84_98 : lkc cd84 98 = s84_98 := rfl
theorem l84_118 : lkc cd84 118 = s84_118 := rfl
theorem l84_119 : lkc cd84 119 = s84_119 := rfl
theorem l84_120 : lkc cd84 120 = s84_120 := rfl
theorem l84_126 : lkc cd84 126 = s84_126 := rfl
theorem l84_154 : lkc cd84 154 = s84_154 := rfl
theorem l84_155 : lkc cd84 155 = s84_155 := rfl
theorem l84_164 : lkc cd84 164 = s84_164 := rfl
theorem l84_173 : lkc cd84 173 = s84_173 := rfl
theorem l84_174 : lkc cd84 174 = s84_174 := rfl
theorem k84 : chkM 84 0 true cd84 = true := by decide +kernel
/- FontHouse.part(IIII)I -/
def s85_0 : List E := [(.aload_n 0, 0, [0]), (.iload_n 1, 0, [1]), (.iload_n 2, 0, [2]), (.invokevirtual 414, 0, [83, 0, 1, 8, 0, 0, 0, 0]), (.istore 5, 0, [5]), (.iload 5, 0, [5]), (.ifCond .ge 6, 0, [16]), (.iload 5, 0, [5]), (.ireturn, 0, [])]
def s85_16 : List E := [(.aload_n 0, 0, [0]), (.getfield 168, 348, [0, 10, 21, 1]), (.getfield 417, 1, [10, 10, 23, 1]), (.astore 6, 0, [6]), (.aload 6, 0, [6]), (.getfield 420, 0, [11, 0, 0]), (.ifCond .lt 6, 0, [36]), (.bipush (-3), -3, []), (.ireturn, 0, [])]
def s85_36 : List E := [(.iload_n 3, 0, [3]), (.i2l, 0, []), (.lconst 0, 0, []), (.aload 6, 0, [6]), (.getfield 423, 0, [11, 3, 0]), (.iconst 1, 1, []), (.isub, 0, []), (.i2l, 0, []), (.invokestatic 219, 0, [38, 244, 0, 3, 5, 5, 5]), (.ifCond .eq 16, 0, [66]), (.iload 4, 0, [4]), (.i2l, 0, []), (.lconst 0, 0, []), (.ldc2_w 238, 8, []), (.invokestatic 219, 0, [38, 244, 0, 3, 5, 5, 5]), (.ifCond .ne 6, 0, [69]), (.nop, 0, [66])]
def s85_66 : List E := [(.bipush (-2), -2, []), (.ireturn, 0, [])]
def s85_69 : List E := [(.iload 4, 0, [4]), (.tableswitch 76 0 4 #[33, 41, 49, 57, 65], 0, [147, 104, 112, 120, 128, 136])]
def s85_104 : List E := [(.aload 6, 0, [6]), (.getfield 454, 6, [11, 9, 81, 1]), (.iload_n 3, 0, [3]), (.iaload, 0, []), (.ireturn, 0, [])]
def s85_112 : List E := [(.aload 6, 0, [6]), (.getfield 457, 7, [11, 10, 81, 1]), (.iload_n 3, 0, [3]), (.iaload, 0, []), (.ireturn, 0, [])]
def s85_120 : List E := [(.aload 6, 0, [6]), (.getfield 459, 8, [11, 11, 81, 1]), (.iload_n 3, 0, [3]), (.iaload, 0, []), (.ireturn, 0, [])]
def s85_128 : List E := [(.aload 6, 0, [6]), (.getfield 462, 9, [11, 12, 81, 1]), (.iload_n 3, 0, [3]), (.iaload, 0, []), (.ireturn, 0, [])]
def s85_136 : List E := [(.aload 6, 0, [6]), (.getfield 454, 6, [11, 9, 81, 1]), (.iload_n 3, 0, [3]), (.iaload, 0, []), (.invokestatic 465, 0, [161, 249, 0, 0, 0]), (.ireturn, 0, [])]
def s85_147 : List E := [(.aload 6, 0, [6]), (.getfield 468, 10, [11, 13, 81, 1]), (.iconst 4, 4, []), (.iload_n 3, 0, [3]), (.imul, 0, []), (.iload 4, 0, [4]), (.iadd, 0, []), (.iconst 5, 5, []), (.isub, 0, []), (.iaload, 0, []), (.ireturn, 0, [])]
def cd85 : List (Nat × List E) := [(0, s85_0), (16, s85_16), (36, s85_36), (66, s85_66), (69, s85_69), (104, s85_104), (112, s85_112), (120, s85_120), (128, s85_128), (136, s85_136), (147, s85_147)]
theorem l85_0 : lkc cd85 0 = s85_0 := rfl
theorem l85_16 : lkc cd85 16 = s85_16 := rfl
theorem l85_36 : lkc cd85 36 = s85_36 := rfl
theorem l85_66 : lkc cd85 66 = s85_66 := rfl
theorem l85_69 : lkc cd85 69 = s85_69 := rfl
theorem l85_104 : lkc cd85 104 = s85_104 := rfl
theorem l85_112 : lkc cd85 112 = s85_112 := rfl
theorem l85_120 : lkc cd85 120 = s85_120 := rfl
theorem l85_128 : lkc cd85 128 = s85_128 := rfl
theorem l85_136 : lkc cd85 136 = s85_136 := rfl
theorem l85_147 : lkc cd85 147 = s85_147 := rfl
theorem k85 : chkM 85 0 true cd85 = true := by decide +kernel
/- FontHouse.code(III)I -/
def s86_0 : List E := [(.aload_n 0, 0, [0]), (.iload_n 1, 0, [1]), (.iload_n 2, 0, [2]), (.invokevirtual 414, 0, [83, 0, 1, 8, 0, 0, 0, 0]), (.istore 4, 0, [4]), (.iload 4, 0, [4]), (.ifCond .ge 6, 0, [16]), (.iload 4, 0, [4]), (.ireturn, 0, [])]
def s86_16 : List E := [(.aload_n 0, 0, [0]), (.getfield 168, 348, [0, 10, 21, 1]), (.getfield 417, 1, [10, 10, 23, 1]), (.getfield 424, 13, [11, 15, 3, 1]), (.astore 5, 0, [5]), (.iload_n 3, 0, [3]), (.i2l, 0, []), (.lconst 0, 0, []), (.aload 5, 0, [5]), (.getfield 43, 0, [1, 1, 0]), (.iconst 1, 1, []), (.isub, 0, []), (.i2l, 0, []), (.invokestatic 219, 0, [38, 244, 0, 3, 5, 5, 5]), (.ifCond .eq 12, 0, [54]), (.aload 5, 0, [5]), (.iload_n 3, 0, [3]), (.invokevirtual 247, 0, [114, 1, 3, 248, 0, 0, 0]), (.goto 5, 0, [56])]
def s86_54 : List E := [(.bipush (-2), -2, []), (.nop, 0, [56])]
def s86_56 : List E := [(.ireturn, 0, [])]
def cd86 : List (Nat × List E) := [(0, s86_0), (16, s86_16), (54, s86_54), (56, s86_56)]
theorem l86_0 : lkc cd86 0 = s86_0 := rfl
theorem l86_16 : lkc cd86 16 = s86_16 := rfl
theorem l86_54 : lkc cd86 54 = s86_54 := rfl
theorem l86_56 : lkc cd86 56 = s86_56 := rfl
theorem k86 : chkM 86 0 true cd86 = true := by decide +kernel
/- FontHouse.metric(IIII)I -/
def s87_0 : List E := [(.aload_n 0, 0, [0]), (.iload_n 1, 0, [1]), (.iload_n 2, 0, [2]), (.invokevirtual 414, 0, [83, 0, 1, 8, 0, 0, 0, 0]), (.istore 5, 0, [5]), (.iload 5, 0, [5]), (.ifCond .ge 6, 0, [16]), (.iload 5, 0, [5]), (.ireturn, 0, [])]
def s87_16 : List E := [(.iload_n 3, 0, [3]), (.i2l, 0, []), (.lconst 0, 0, []), (.ldc2_w 471, 65535, []), (.invokestatic 219, 0, [38, 244, 0, 3, 5, 5, 5]), (.ifCond .eq 11, 0, [36]), (.iload 4, 0, [4]), (.invokestatic 473, 0, [88, 249, 0, 3, 0]), (.ifCond .ne 6, 0, [39]), (.nop, 0, [36])]
def s87_36 : List E := [(.bipush (-2), -2, []), (.ireturn, 0, [])]
def s87_39 : List E := [(.iload_n 2, 0, [2]), (.aload_n 0, 0, [0]), (.getfield 168, 348, [0, 10, 21, 1]), (.getfield 476, 0, [10, 1, 0]), (.if_icmp .lt 18, 0, [65]), (.iload_n 3, 0, [3]), (.aload_n 0, 0, [0]), (.getfield 168, 348, [0, 10, 21, 1]), (.iload_n 2, 0, [2]), (.invokevirtual 427, 0, [151, 10, 21, 206, 0, 0, 0]), (.if_icmp .eq 6, 0, [65]), (.bipush (-3), -3, []), (.ireturn, 0, [])]
def s87_65 : List E := [(.aload_n 0, 0, [0]), (.getfield 99, 7, [0, 6, 5, 1]), (.invokevirtual 306, 0, [473, 2, 5, 167, 0, 100]), (.aload_n 0, 0, [0]), (.getfield 99, 7, [0, 6, 5, 1]), (.aload_n 0, 0, [0]), (.getfield 168, 348, [0, 10, 21, 1]), (.getfield 479, 0, [10, 6, 7]), (.invokevirtual 387, 0, [477, 2, 5, 143, 0, 7, 7]), (.astore 6, 0, [6]), (.iload_n 2, 0, [2]), (.aload_n 0, 0, [0]), (.getfield 168, 348, [0, 10, 21, 1]), (.getfield 476, 0, [10, 1, 0]), (.if_icmp .ge 12, 0, [108]), (.aload 6, 0, [6]), (.iconst 4, 4, []), (.iload_n 2, 0, [2]), (.imul, 0, []), (.iload_n 3, 0, [3]), (.invokevirtual 482, 0, [125, 1, 3, 247, 0, 100, 0, 0]), (.nop, 0, [108])]
def s87_108 : List E := [(.aload 6, 0, [6]), (.iload_n 2, 0, [2]), (.aload_n 0, 0, [0]), (.getfield 168, 348, [0, 10, 21, 1]), (.getfield 476, 0, [10, 1, 0]), (.invokestatic 485, 0, [153, 248, 0, 0, 0, 0]), (.iload 4, 0, [4]), (.invokevirtual 482, 0, [125, 1, 3, 247, 0, 100, 0, 0]), (.aload_n 0, 0, [0]), (.getfield 99, 7, [0, 6, 5, 1]), (.aload_n 0, 0, [0]), (.getfield 99, 7, [0, 6, 5, 1]), (.getfield 103, 2, [2, 1, 93, 1]), (.iload_n 1, 0, [1]), (.aaload, 0, [46, 6]), (.getstatic 331, 1752003704, [3]), (.aload 6, 0, [6]), (.invokevirtual 324, 0, [484, 3, 7, 244, 0, 3, 7, 5]), (.invokevirtual 340, 0, [475, 2, 5, 165, 0, 3, 3]), (.ifCond .eq 7, 0, [157]), (.iconst 1, 1, []), (.goto 5, 0, [159])]
def s87_157 : List E := [(.bipush (-4), -4, []), (.nop, 0, [159])]
def s87_159 : List E := [(.ireturn, 0, [])]
def cd87 : List (Nat × List E) := [(0, s87_0), (16, s87_16), (36, s87_36), (39, s87_39), (65, s87_65), (108, s87_108), (157, s87_157), (159, s87_159)]
theorem l87_0 : lkc cd87 0 = s87_0 := rfl
theorem l87_16 : lkc cd87 16 = s87_16 := rfl
theorem l87_36 : lkc cd87 36 = s87_36 := rfl
theorem l87_39 : lkc cd87 39 = s87_39 := rfl
theorem l87_65 : lkc cd87 65 = s87_65 := rfl
theorem l87_108 : lkc cd87 108 = s87_108 := rfl
theorem l87_157 : lkc cd87 157 = s87_157 := rfl
theorem l87_159 : lkc cd87 159 = s87_159 := rfl
theorem k87 : chkM 87 0 true cd87 = true := by decide +kernel
/- FontHouse.isWord(I)Z -/
def s88_0 : List E := [(.iload_n 0, 0, [0]), (.iload_n 0, 0, [0]), (.i2s, 0, []), (.if_icmp .ne 7, 0, [10]), (.iconst 1, 1, []), (.goto 4, 0, [11])]
def s88_10 : List E := [(.iconst 0, 0, []), (.nop, 0, [11])]
def s88_11 : List E := [(.ireturn, 0, [1])]
def cd88 : List (Nat × List E) := [(0, s88_0), (10, s88_10), (11, s88_11)]
theorem l88_0 : lkc cd88 0 = s88_0 := rfl
theorem l88_10 : lkc cd88 10 = s88_10 := rfl
theorem l88_11 : lkc cd88 11 = s88_11 := rfl
theorem k88 : chkM 88 0 true cd88 = true := by decide +kernel
/- FontHouse.wide(II)I -/
def s89_0 : List E := [(.aload_n 0, 0, [0]), (.iload_n 1, 0, [1]), (.invokevirtual 406, 0, [81, 0, 1, 8, 0, 0, 0]), (.istore_n 3, 0, [3]), (.iload_n 3, 0, [3]), (.ifCond .ge 5, 0, [12]), (.iload_n 3, 0, [3]), (.ireturn, 0, [])]
def s89_12 : List E := [(.iload_n 2, 0, [2]), (.i2l, 0, []), (.lconst 1, 1, []), (.aload_n 0, 0, [0]), (.getfield 168, 348, [0, 10, 21, 1]), (.getfield 409, 0, [10, 0, 0]), (.i2l, 0, []), (.invokestatic 219, 0, [38, 221, 0, 3, 5, 5, 5]), (.ifCond .ne 6, 0, [32]), (.bipush (-2), -2, []), (.ireturn, 0, [])]
def s89_32 : List E := [(.iload_n 2, 0, [2]), (.istore 4, 0, [4]), (.nop, 0, [35])]
def s89_35 : List E := [(.iload 4, 0, [4]), (.aload_n 0, 0, [0]), (.getfield 168, 348, [0, 10, 21, 1]), (.getfield 409, 0, [10, 0, 0]), (.if_icmp .ge 34, 0, [78]), (.aload_n 0, 0, [0]), (.getfield 168, 348, [0, 10, 21, 1]), (.iload 4, 0, [4]), (.invokevirtual 427, 0, [151, 10, 21, 183, 0, 0, 0]), (.aload_n 0, 0, [0]), (.getfield 168, 348, [0, 10, 21, 1]), (.iload_n 2, 0, [2]), (.iconst 1, 1, []), (.isub, 0, []), (.invokevirtual 427, 0, [151, 10, 21, 183, 0, 0, 0]), (.if_icmp .eq 6, 0, [72]), (.bipush (-3), -3, []), (.ireturn, 0, [])]
def s89_72 : List E := [(.iinc 4 1, 1, [4]), (.goto (-40), 0, [35])]
def s89_78 : List E := [(.aload_n 0, 0, [0]), (.getfield 168, 348, [0, 10, 21, 1]), (.getfield 476, 0, [10, 1, 0]), (.istore 4, 0, [4]), (.aload_n 0, 0, [0]), (.getfield 99, 7, [0, 6, 5, 1]), (.invokevirtual 306, 0, [473, 2, 5, 144, 0, 100]), (.aload_n 0, 0, [0]), (.getfield 99, 7, [0, 6, 5, 1]), (.invokevirtual 309, 0, [474, 2, 5, 205, 0, 7]), (.astore 5, 0, [5]), (.iconst 0, 0, []), (.istore 6, 0, [6]), (.nop, 0, [106])]
def s89_106 : List E := [(.iload 6, 0, [6]), (.aload_n 0, 0, [0]), (.getfield 168, 348, [0, 10, 21, 1]), (.getfield 409, 0, [10, 0, 0]), (.if_icmp .ge 43, 0, [158]), (.iload 6, 0, [6]), (.iload_n 2, 0, [2]), (.if_icmp .ge 17, 0, [138]), (.aload 5, 0, [5]), (.aload_n 0, 0, [0]), (.getfield 168, 348, [0, 10, 21, 1]), (.iload 6, 0, [6]), (.invokevirtual 427, 0, [151, 10, 21, 183, 0, 0, 0]), (.invokevirtual 32, 0, [121, 1, 3, 204, 0, 100, 0]), (.nop, 0, [138])]
def s89_138 : List E := [(.aload 5, 0, [5]), (.aload_n 0, 0, [0]), (.getfield 168, 348, [0, 10, 21, 1]), (.iload 6, 0, [6]), (.invokevirtual 430, 0, [152, 10, 21, 162, 0, 0, 0]), (.invokevirtual 32, 0, [121, 1, 3, 204, 0, 100, 0]), (.iinc 6 1, 1, [6]), (.goto (-49), 0, [106])]
def s89_158 : List E := [(.aload_n 0, 0, [0]), (.getfield 99, 7, [0, 6, 5, 1]), (.aload_n 0, 0, [0]), (.getfield 168, 348, [0, 10, 21, 1]), (.getfield 488, 0, [10, 5, 7]), (.invokevirtual 387, 0, [477, 2, 5, 120, 0, 7, 7]), (.astore 6, 0, [6]), (.aload 6, 0, [6]), (.bipush 34, 34, []), (.iload_n 2, 0, [2]), (.invokevirtual 482, 0, [125, 1, 3, 224, 0, 100, 0, 0]), (.aload_n 0, 0, [0]), (.getfield 99, 7, [0, 6, 5, 1]), (.getfield 103, 2, [2, 1, 93, 1]), (.iload_n 1, 0, [1]), (.aaload, 0, [46, 6]), (.astore 7, 0, [7]), (.aload_n 0, 0, [0]), (.getfield 99, 7, [0, 6, 5, 1]), (.aload 7, 0, [7]), (.getstatic 331, 1752003704, [3]), (.aload 5, 0, [5]), (.invokevirtual 324, 0, [484, 3, 7, 221, 0, 3, 7, 5]), (.ifCond .eq 20, 0, [227]), (.aload 7, 0, [7]), (.getstatic 328, 1751672161, [2]), (.aload 6, 0, [6]), (.invokevirtual 324, 0, [484, 3, 7, 221, 0, 3, 7, 5]), (.ifCond .eq 7, 0, [227]), (.iconst 1, 1, []), (.goto 4, 0, [228])]
def s89_227 : List E := [(.iconst 0, 0, []), (.nop, 0, [228])]
def s89_228 : List E := [(.invokevirtual 340, 0, [475, 2, 5, 142, 0, 3, 3]), (.ifCond .eq 8, 0, [239]), (.iload 4, 0, [4]), (.goto 5, 0, [241])]
def s89_239 : List E := [(.bipush (-4), -4, []), (.nop, 0, [241])]
def s89_241 : List E := [(.ireturn, 0, [])]
def cd89 : List (Nat × List E) := [(0, s89_0), (12, s89_12), (32, s89_32), (35, s89_35), (72, s89_72), (78, s89_78), (106, s89_106), (138, s89_138), (158, s89_158), (227, s89_227), (228, s89_228), (239, s89_239), (241, s89_241)]
theorem l89_0 : lkc cd89 0 = s89_0 := rfl
theorem l89_12 : lkc cd89 12 = s89_12 := rfl
theorem l89_32 : lkc cd89 32 = s89_32 := rfl
theorem l89_35 : lkc cd89 35 = s89_35 := rfl
theorem l89_72 : lkc cd89 72 = s89_72 := rfl
theorem l89_78 : lkc cd89 78 = s89_78 := rfl
theorem l89_106 : lkc cd89 106 = s89_106 := rfl
theorem l89_138 : lkc cd89 138 = s89_138 := rfl
theorem l89_158 : lkc cd89 158 = s89_158 := rfl
theorem l89_227 : lkc cd89 227 = s89_227 := rfl
theorem l89_228 : lkc cd89 228 = s89_228 := rfl
theorem l89_239 : lkc cd89 239 = s89_239 := rfl
theorem l89_241 : lkc cd89 241 = s89_241 := rfl
theorem k89 : chkM 89 0 true cd89 = true := by decide +kernel
/- FontHouse.form(II)I -/
def s90_0 : List E := [(.aload_n 0, 0, [0]), (.iload_n 1, 0, [1]), (.invokevirtual 406, 0, [81, 0, 1, 8, 0, 0, 0]), (.istore_n 3, 0, [3]), (.iload_n 3, 0, [3]), (.ifCond .ge 5, 0, [12]), (.iload_n 3, 0, [3]), (.ireturn, 0, [])]
def s90_12 : List E := [(.iload_n 2, 0, [2]), (.i2l, 0, []), (.lconst 0, 0, []), (.lconst 1, 1, []), (.invokestatic 219, 0, [38, 221, 0, 3, 5, 5, 5]), (.ifCond .ne 6, 0, [25]), (.bipush (-2), -2, []), (.ireturn, 0, [])]
def s90_25 : List E := [(.iconst 0, 0, []), (.istore 4, 0, [4]), (.nop, 0, [28])]
def s90_28 : List E := [(.iload 4, 0, [4]), (.aload_n 0, 0, [0]), (.getfield 168, 348, [0, 10, 21, 1]), (.getfield 409, 0, [10, 0, 0]), (.if_icmp .gt 30, 0, [67]), (.iload_n 2, 0, [2]), (.ifCond .ne 26, 0, [67]), (.aload_n 0, 0, [0]), (.getfield 168, 348, [0, 10, 21, 1]), (.iload 4, 0, [4]), (.invokevirtual 433, 0, [149, 10, 21, 162, 0, 0, 0]), (.iconst 2, 2, []), (.irem, 0, []), (.ifCond .eq 6, 0, [61]), (.bipush (-3), -3, []), (.ireturn, 0, [])]
def s90_61 : List E := [(.iinc 4 1, 1, [4]), (.goto (-36), 0, [28])]
def s90_67 : List E := [(.aload_n 0, 0, [0]), (.getfield 168, 348, [0, 10, 21, 1]), (.getfield 491, 0, [10, 2, 0]), (.istore 4, 0, [4]), (.aload_n 0, 0, [0]), (.getfield 99, 7, [0, 6, 5, 1]), (.invokevirtual 306, 0, [473, 2, 5, 144, 0, 100]), (.aload_n 0, 0, [0]), (.getfield 99, 7, [0, 6, 5, 1]), (.invokevirtual 309, 0, [474, 2, 5, 205, 0, 7]), (.astore 5, 0, [5]), (.iconst 0, 0, []), (.istore 6, 0, [6]), (.nop, 0, [95])]
def s90_95 : List E := [(.iload 6, 0, [6]), (.aload_n 0, 0, [0]), (.getfield 168, 348, [0, 10, 21, 1]), (.getfield 409, 0, [10, 0, 0]), (.if_icmp .gt 24, 0, [128]), (.aload 5, 0, [5]), (.aload_n 0, 0, [0]), (.getfield 168, 348, [0, 10, 21, 1]), (.iload 6, 0, [6]), (.invokevirtual 433, 0, [149, 10, 21, 162, 0, 0, 0]), (.iload_n 2, 0, [2]), (.invokestatic 494, 0, [178, 161, 0, 100, 0, 0, 7]), (.iinc 6 1, 1, [6]), (.goto (-30), 0, [95])]
def s90_128 : List E := [(.aload_n 0, 0, [0]), (.getfield 99, 7, [0, 6, 5, 1]), (.aload_n 0, 0, [0]), (.getfield 168, 348, [0, 10, 21, 1]), (.getfield 497, 0, [10, 3, 7]), (.invokevirtual 387, 0, [477, 2, 5, 120, 0, 7, 7]), (.astore 6, 0, [6]), (.aload 6, 0, [6]), (.bipush 50, 50, []), (.iload_n 2, 0, [2]), (.invokevirtual 482, 0, [125, 1, 3, 224, 0, 100, 0, 0]), (.aload_n 0, 0, [0]), (.getfield 99, 7, [0, 6, 5, 1]), (.getfield 103, 2, [2, 1, 93, 1]), (.iload_n 1, 0, [1]), (.aaload, 0, [46, 6]), (.astore 7, 0, [7]), (.aload_n 0, 0, [0]), (.getfield 99, 7, [0, 6, 5, 1]), (.aload 7, 0, [7]), (.getstatic 334, 1819239265, [4]), (.aload 5, 0, [5]), (.invokevirtual 324, 0, [484, 3, 7, 221, 0, 3, 7, 5]), (.ifCond .eq 20, 0, [197]), (.aload 7, 0, [7]), (.getstatic 13, 1751474532, [0]), (.aload 6, 0, [6]), (.invokevirtual 324, 0, [484, 3, 7, 221, 0, 3, 7, 5]), (.ifCond .eq 7, 0, [197]), (.iconst 1, 1, []), (.goto 4, 0, [198])]
def s90_197 : List E := [(.iconst 0, 0, []), (.nop, 0, [198])]
def s90_198 : List E := [(.invokevirtual 340, 0, [475, 2, 5, 142, 0, 3, 3]), (.ifCond .eq 8, 0, [209]), (.iload 4, 0, [4]), (.goto 5, 0, [211])]
def s90_209 : List E := [(.bipush (-4), -4, []), (.nop, 0, [211])]
def s90_211 : List E := [(.ireturn, 0, [])]
def cd90 : List (Nat × List E) := [(0, s90_0), (12, s90_12), (25, s90_25), (28, s90_28), (61, s90_61), (67, s90_67), (95, s90_95), (128, s90_128), (197, s90_197), (198, s90_198), (209, s90_209), (211, s90_211)]
theorem l90_0 : lkc cd90 0 = s90_0 := rfl
theorem l90_12 : lkc cd90 12 = s90_12 := rfl
theorem l90_25 : lkc cd90 25 = s90_25 := rfl
theorem l90_28 : lkc cd90 28 = s90_28 := rfl
theorem l90_61 : lkc cd90 61 = s90_61 := rfl
theorem l90_67 : lkc cd90 67 = s90_67 := rfl
theorem l90_95 : lkc cd90 95 = s90_95 := rfl
theorem l90_128 : lkc cd90 128 = s90_128 := rfl
theorem l90_197 : lkc cd90 197 = s90_197 := rfl
theorem l90_198 : lkc cd90 198 = s90_198 := rfl
theorem l90_209 : lkc cd90 209 = s90_209 := rfl
theorem l90_211 : lkc cd90 211 = s90_211 := rfl
theorem k90 : chkM 90 0 true cd90 = true := by decide +kernel
/- FontHouse.clear()I -/
def s91_0 : List E := [(.aload_n 0, 0, [0]), (.getfield 206, 442, [0, 16, 23, 1]), (.getfield 423, 0, [11, 3, 0]), (.aload_n 0, 0, [0]), (.getfield 210, 458, [0, 17, 23, 1]), (.getfield 423, 0, [11, 3, 0]), (.iadd, 0, []), (.istore_n 1, 0, [1]), (.aload_n 0, 0, [0]), (.getfield 206, 442, [0, 16, 23, 1]), (.invokevirtual 216, 0, [156, 11, 23, 8, 0, 100]), (.aload_n 0, 0, [0]), (.getfield 210, 458, [0, 17, 23, 1]), (.invokevirtual 216, 0, [156, 11, 23, 8, 0, 100]), (.aload_n 0, 0, [0]), (.iconst 0, 0, []), (.putfield 500, 0, [0, 18, 3]), (.iload_n 1, 0, [1]), (.ireturn, 0, [])]
def cd91 : List (Nat × List E) := [(0, s91_0)]
theorem l91_0 : lkc cd91 0 = s91_0 := rfl
theorem k91 : chkM 91 0 true cd91 = true := by decide +kernel
/- FontHouse.spot(IIZ)I -/
def s92_0 : List E := [(.aload_n 0, 0, [0]), (.getfield 206, 442, [0, 16, 23, 1]), (.getfield 423, 0, [11, 3, 0]), (.istore 4, 0, [4]), (.iload 4, 0, [4]), (.ifCond .ne 7, 0, [18]), (.iconst 0, 0, []), (.goto 15, 0, [30])]
def s92_18 : List E := [(.aload_n 0, 0, [0]), (.getfield 206, 442, [0, 16, 23, 1]), (.getfield 441, 2, [11, 4, 81, 1]), (.iload 4, 0, [4]), (.iconst 1, 1, []), (.isub, 0, []), (.iaload, 0, []), (.nop, 0, [30])]
def s92_30 : List E := [(.istore 5, 0, [5]), (.iload 4, 0, [4]), (.ifCond .ne 7, 0, [41]), (.iconst 0, 0, []), (.goto 15, 0, [53])]
def s92_41 : List E := [(.aload_n 0, 0, [0]), (.getfield 206, 442, [0, 16, 23, 1]), (.getfield 444, 3, [11, 5, 81, 1]), (.iload 4, 0, [4]), (.iconst 1, 1, []), (.isub, 0, []), (.iaload, 0, []), (.nop, 0, [53])]
def s92_53 : List E := [(.istore 6, 0, [6]), (.iload_n 1, 0, [1]), (.invokestatic 473, 0, [88, 8, 0, 3, 0]), (.ifCond .eq 30, 0, [89]), (.iload_n 2, 0, [2]), (.invokestatic 473, 0, [88, 8, 0, 3, 0]), (.ifCond .eq 23, 0, [89]), (.iload_n 1, 0, [1]), (.iload 5, 0, [5]), (.isub, 0, []), (.invokestatic 473, 0, [88, 8, 0, 3, 0]), (.ifCond .eq 13, 0, [89]), (.iload_n 2, 0, [2]), (.iload 6, 0, [6]), (.isub, 0, []), (.invokestatic 473, 0, [88, 8, 0, 3, 0]), (.ifCond .ne 6, 0, [92]), (.nop, 0, [89])]
def s92_89 : List E := [(.bipush (-2), -2, []), (.ireturn, 0, [])]
def s92_92 : List E := [(.iload 4, 0, [4]), (.sipush 256, 256, []), (.if_icmp .eq 22, 0, [119]), (.aload_n 0, 0, [0]), (.getfield 500, 0, [0, 18, 3]), (.ifCond .ne 18, 0, [122]), (.aload_n 0, 0, [0]), (.getfield 206, 442, [0, 16, 23, 1]), (.getfield 420, 0, [11, 0, 0]), (.bipush 32, 32, []), (.if_icmp .ne 6, 0, [122]), (.nop, 0, [119])]
def s92_119 : List E := [(.bipush (-4), -4, []), (.ireturn, 0, [])]
def s92_122 : List E := [(.aload_n 0, 0, [0]), (.getfield 206, 442, [0, 16, 23, 1]), (.getfield 441, 2, [11, 4, 81, 1]), (.iload 4, 0, [4]), (.iload_n 1, 0, [1]), (.iastore, 0, []), (.aload_n 0, 0, [0]), (.getfield 206, 442, [0, 16, 23, 1]), (.getfield 444, 3, [11, 5, 81, 1]), (.iload 4, 0, [4]), (.iload_n 2, 0, [2]), (.iastore, 0, []), (.aload_n 0, 0, [0]), (.getfield 206, 442, [0, 16, 23, 1]), (.getfield 447, 4, [11, 6, 89, 1]), (.iload 4, 0, [4]), (.iload_n 3, 0, [3]), (.bastore, 0, []), (.aload_n 0, 0, [0]), (.getfield 206, 442, [0, 16, 23, 1]), (.dup, 0, []), (.getfield 423, 0, [11, 3, 0]), (.iconst 1, 1, []), (.iadd, 0, []), (.putfield 423, 0, [11, 3, 0]), (.aload_n 0, 0, [0]), (.iconst 1, 1, []), (.putfield 500, 0, [0, 18, 3]), (.aload_n 0, 0, [0]), (.getfield 206, 442, [0, 16, 23, 1]), (.getfield 423, 0, [11, 3, 0]), (.ireturn, 0, [])]
def cd92 : List (Nat × List E) := [(0, s92_0), (18, s92_18), (30, s92_30), (41, s92_41), (53, s92_53), (89, s92_89), (92, s92_92), (119, s92_119), (122, s92_122)]
theorem l92_0 : lkc cd92 0 = s92_0 := rfl
theorem l92_18 : lkc cd92 18 = s92_18 := rfl
theorem l92_30 : lkc cd92 30 = s92_30 := rfl
theorem l92_41 : lkc cd92 41 = s92_41 := rfl
theorem l92_53 : lkc cd92 53 = s92_53 := rfl
theorem l92_89 : lkc cd92 89 = s92_89 := rfl
theorem l92_92 : lkc cd92 92 = s92_92 := rfl
theorem l92_119 : lkc cd92 119 = s92_119 := rfl
theorem l92_122 : lkc cd92 122 = s92_122 := rfl
theorem k92 : chkM 92 0 true cd92 = true := by decide +kernel
/- FontHouse.shut()I -/
def s93_0 : List E := [(.aload_n 0, 0, [0]), (.getfield 500, 0, [0, 18, 3]), (.ifCond .ne 6, 0, [10]), (.bipush (-3), -3, []), (.ireturn, 0, [])]
def s93_10 : List E := [(.aload_n 0, 0, [0]), (.getfield 206, 442, [0, 16, 23, 1]), (.getfield 451, 5, [11, 7, 81, 1]), (.aload_n 0, 0, [0]), (.getfield 206, 442, [0, 16, 23, 1]), (.dup, 0, []), (.getfield 420, 0, [11, 0, 0]), (.dup_x1, 0, []), (.iconst 1, 1, []), (.iadd, 0, []), (.putfield 420, 0, [11, 0, 0]), (.aload_n 0, 0, [0]), (.getfield 206, 442, [0, 16, 23, 1]), (.getfield 423, 0, [11, 3, 0]), (.iconst 1, 1, []), (.isub, 0, []), (.iastore, 0, []), (.aload_n 0, 0, [0]), (.iconst 0, 0, []), (.putfield 500, 0, [0, 18, 3]), (.aload_n 0, 0, [0]), (.getfield 206, 442, [0, 16, 23, 1]), (.getfield 420, 0, [11, 0, 0]), (.ireturn, 0, [])]
def cd93 : List (Nat × List E) := [(0, s93_0), (10, s93_10)]
theorem l93_0 : lkc cd93 0 = s93_0 := rfl
theorem l93_10 : lkc cd93 10 = s93_10 := rfl
theorem k93 : chkM 93 0 true cd93 = true := by decide +kernel
/- FontHouse.add(IIIIJ)I -/
def s94_0 : List E := [(.iload_n 1, 0, [1]), (.iconst 1, 1, []), (.iand, 0, []), (.ifCond .eq 7, 0, [10]), (.iconst 1, 1, []), (.goto 4, 0, [11])]
def s94_10 : List E := [(.iconst 0, 0, []), (.nop, 0, [11])]
def s94_11 : List E := [(.istore 7, 0, [7]), (.iload_n 1, 0, [1]), (.i2l, 0, []), (.lconst 0, 0, []), (.ldc2_w 471, 65535, []), (.invokestatic 219, 0, [38, 8, 0, 3, 5, 5, 5]), (.ifCond .eq 29, 0, [51]), (.iload_n 1, 0, [1]), (.bipush 32, 32, []), (.iand, 0, []), (.ifCond .ne 22, 0, [51]), (.iload_n 1, 0, [1]), (.invokestatic 503, 0, [162, 13, 0, 3, 0]), (.ifCond .eq 15, 0, [51]), (.iload_n 2, 0, [2]), (.i2l, 0, []), (.lconst 0, 0, []), (.ldc2_w 506, 63, []), (.invokestatic 219, 0, [38, 8, 0, 3, 5, 5, 5]), (.ifCond .ne 6, 0, [54]), (.nop, 0, [51])]
def s94_51 : List E := [(.bipush (-2), -2, []), (.ireturn, 0, [])]
def s94_54 : List E := [(.iload 7, 0, [7]), (.ifCond .eq 21, 0, [77]), (.iload_n 3, 0, [3]), (.invokestatic 473, 0, [88, 13, 0, 3, 0]), (.ifCond .eq 28, 0, [91]), (.iload 4, 0, [4]), (.invokestatic 473, 0, [88, 13, 0, 3, 0]), (.ifCond .ne 23, 0, [94]), (.goto 17, 0, [91])]
def s94_77 : List E := [(.iload_n 3, 0, [3]), (.iload_n 3, 0, [3]), (.i2b, 0, []), (.if_icmp .ne 11, 0, [91]), (.iload 4, 0, [4]), (.iload 4, 0, [4]), (.i2b, 0, []), (.if_icmp .eq 6, 0, [94]), (.nop, 0, [91])]
def s94_91 : List E := [(.bipush (-2), -2, []), (.ireturn, 0, [])]
def s94_94 : List E := [(.aload_n 0, 0, [0]), (.getfield 210, 458, [0, 17, 23, 1]), (.getfield 423, 0, [11, 3, 0]), (.istore 8, 0, [8]), (.iload 8, 0, [8]), (.bipush 16, 16, []), (.if_icmp .ne 6, 0, [113]), (.bipush (-4), -4, []), (.ireturn, 0, [])]
def s94_113 : List E := [(.aload_n 0, 0, [0]), (.getfield 210, 458, [0, 17, 23, 1]), (.getfield 454, 6, [11, 9, 81, 1]), (.iload 8, 0, [8]), (.iload_n 1, 0, [1]), (.iastore, 0, []), (.aload_n 0, 0, [0]), (.getfield 210, 458, [0, 17, 23, 1]), (.getfield 457, 7, [11, 10, 81, 1]), (.iload 8, 0, [8]), (.iload_n 2, 0, [2]), (.iastore, 0, []), (.aload_n 0, 0, [0]), (.getfield 210, 458, [0, 17, 23, 1]), (.getfield 459, 8, [11, 11, 81, 1]), (.iload 8, 0, [8]), (.iload_n 3, 0, [3]), (.iastore, 0, []), (.aload_n 0, 0, [0]), (.getfield 210, 458, [0, 17, 23, 1]), (.getfield 462, 9, [11, 12, 81, 1]), (.iload 8, 0, [8]), (.iload 4, 0, [4]), (.iastore, 0, []), (.iconst 0, 0, []), (.istore 9, 0, [9]), (.nop, 0, [161])]
def s94_161 : List E := [(.iload 9, 0, [9]), (.iconst 4, 4, []), (.if_icmp .ge 50, 0, [214]), (.aload_n 0, 0, [0]), (.getfield 210, 458, [0, 17, 23, 1]), (.getfield 468, 10, [11, 13, 81, 1]), (.iconst 4, 4, []), (.iload 8, 0, [8]), (.imul, 0, []), (.iload 9, 0, [9]), (.iadd, 0, []), (.iload 9, 0, [9]), (.iload_n 1, 0, [1]), (.invokestatic 465, 0, [161, 13, 0, 0, 0]), (.if_icmp .ge 19, 0, [206]), (.lload 5, 0, [5]), (.bipush 16, 16, []), (.iload 9, 0, [9]), (.imul, 0, []), (.lushr, 0, []), (.l2i, 0, []), (.ldc_w 508, 65535, []), (.iand, 0, []), (.goto 4, 0, [207])]
def s94_206 : List E := [(.iconst 0, 0, []), (.nop, 0, [207])]
def s94_207 : List E := [(.iastore, 0, []), (.iinc 9 1, 1, [9]), (.goto (-50), 0, [161])]
def s94_214 : List E := [(.aload_n 0, 0, [0]), (.getfield 210, 458, [0, 17, 23, 1]), (.dup, 0, []), (.getfield 423, 0, [11, 3, 0]), (.iconst 1, 1, []), (.iadd, 0, []), (.putfield 423, 0, [11, 3, 0]), (.aload_n 0, 0, [0]), (.getfield 210, 458, [0, 17, 23, 1]), (.getfield 423, 0, [11, 3, 0]), (.ireturn, 0, [])]
def cd94 : List (Nat × List E) := [(0, s94_0), (10, s94_10), (11, s94_11), (51, s94_51), (54, s94_54), (77, s94_77), (91, s94_91), (94, s94_94), (113, s94_113), (161, s94_161), (206, s94_206), (207, s94_207), (214, s94_214)]
theorem l94_0 : lkc cd94 0 = s94_0 := rfl
theorem l94_10 : lkc cd94 10 = s94_10 := rfl
theorem l94_11 : lkc cd94 11 = s94_11 := rfl
theorem l94_51 : lkc cd94 51 = s94_51 := rfl
theorem l94_54 : lkc cd94 54 = s94_54 := rfl
theorem l94_77 : lkc cd94 77 = s94_77 := rfl
theorem l94_91 : lkc cd94 91 = s94_91 := rfl
theorem l94_94 : lkc cd94 94 = s94_94 := rfl
theorem l94_113 : lkc cd94 113 = s94_113 := rfl
theorem l94_161 : lkc cd94 161 = s94_161 := rfl
theorem l94_206 : lkc cd94 206 = s94_206 := rfl
theorem l94_207 : lkc cd94 207 = s94_207 := rfl
theorem l94_214 : lkc cd94 214 = s94_214 := rfl
theorem k94 : chkM 94 0 true cd94 = true := by decide +kernel
/- FontHouse.op(I)I -/
def s95_0 : List E := [(.iload_n 1, 0, [1]), (.i2l, 0, []), (.lconst 0, 0, []), (.ldc2_w 250, 255, []), (.invokestatic 219, 0, [38, 8, 0, 3, 5, 5, 5]), (.ifCond .ne 6, 0, [15]), (.bipush (-2), -2, []), (.ireturn, 0, [])]
def s95_15 : List E := [(.aload_n 0, 0, [0]), (.getfield 206, 442, [0, 16, 23, 1]), (.getfield 424, 13, [11, 15, 3, 1]), (.getfield 43, 0, [1, 1, 0]), (.sipush 300, 300, []), (.if_icmp .ne 6, 0, [34]), (.bipush (-4), -4, []), (.ireturn, 0, [])]
def s95_34 : List E := [(.aload_n 0, 0, [0]), (.getfield 206, 442, [0, 16, 23, 1]), (.getfield 424, 13, [11, 15, 3, 1]), (.iload_n 1, 0, [1]), (.invokevirtual 240, 0, [113, 1, 3, 12, 0, 100, 0]), (.aload_n 0, 0, [0]), (.getfield 206, 442, [0, 16, 23, 1]), (.getfield 424, 13, [11, 15, 3, 1]), (.getfield 43, 0, [1, 1, 0]), (.ireturn, 0, [])]
def cd95 : List (Nat × List E) := [(0, s95_0), (15, s95_15), (34, s95_34)]
theorem l95_0 : lkc cd95 0 = s95_0 := rfl
theorem l95_15 : lkc cd95 15 = s95_15 := rfl
theorem l95_34 : lkc cd95 34 = s95_34 := rfl
theorem k95 : chkM 95 0 true cd95 = true := by decide +kernel
/- FontHouse.box(JZ)I -/
def s96_0 : List E := [(.aload_n 0, 0, [0]), (.getfield 206, 442, [0, 16, 23, 1]), (.getfield 509, 0, [11, 2, 3]), (.istore 4, 0, [4]), (.aload_n 0, 0, [0]), (.getfield 206, 442, [0, 16, 23, 1]), (.iload_n 3, 0, [3]), (.putfield 509, 0, [11, 2, 3]), (.iconst 0, 0, []), (.istore 5, 0, [5]), (.nop, 0, [20])]
def s96_20 : List E := [(.iload 5, 0, [5]), (.iconst 4, 4, []), (.if_icmp .ge 25, 0, [48]), (.aload_n 0, 0, [0]), (.getfield 213, 474, [0, 19, 81, 1]), (.iload 5, 0, [5]), (.lload_n 1, 0, [1]), (.bipush 16, 16, []), (.iload 5, 0, [5]), (.imul, 0, []), (.lushr, 0, []), (.l2i, 0, []), (.i2s, 0, []), (.iastore, 0, []), (.iinc 5 1, 1, [5]), (.goto (-25), 0, [20])]
def s96_48 : List E := [(.iload 4, 0, [4]), (.ifCond .eq 7, 0, [57]), (.iconst 1, 1, []), (.goto 4, 0, [58])]
def s96_57 : List E := [(.iconst 0, 0, []), (.nop, 0, [58])]
def s96_58 : List E := [(.ireturn, 0, [])]
def cd96 : List (Nat × List E) := [(0, s96_0), (20, s96_20), (48, s96_48), (57, s96_57), (58, s96_58)]
theorem l96_0 : lkc cd96 0 = s96_0 := rfl
theorem l96_20 : lkc cd96 20 = s96_20 := rfl
theorem l96_48 : lkc cd96 48 = s96_48 := rfl
theorem l96_57 : lkc cd96 57 = s96_57 := rfl
theorem l96_58 : lkc cd96 58 = s96_58 := rfl
theorem k96 : chkM 96 0 true cd96 = true := by decide +kernel
/- FontHouse.overlap(Z)Z -/
def s97_0 : List E := [(.aload_n 0, 0, [0]), (.getfield 206, 442, [0, 16, 23, 1]), (.getfield 435, 0, [11, 8, 3]), (.istore_n 2, 0, [2]), (.aload_n 0, 0, [0]), (.getfield 206, 442, [0, 16, 23, 1]), (.iload_n 1, 0, [1]), (.putfield 435, 0, [11, 8, 3]), (.iload_n 2, 0, [2]), (.ireturn, 0, [1])]
def cd97 : List (Nat × List E) := [(0, s97_0)]
theorem l97_0 : lkc cd97 0 = s97_0 := rfl
theorem k97 : chkM 97 0 true cd97 = true := by decide +kernel
/- FontHouse.lay(II)I -/
def s98_0 : List E := [(.aload_n 0, 0, [0]), (.iload_n 1, 0, [1]), (.invokevirtual 406, 0, [81, 0, 1, 8, 0, 0, 0]), (.istore_n 3, 0, [3]), (.iload_n 3, 0, [3]), (.ifCond .ge 5, 0, [12]), (.iload_n 3, 0, [3]), (.ireturn, 0, [])]
def s98_12 : List E := [(.iload_n 2, 0, [2]), (.i2l, 0, []), (.lconst 0, 0, []), (.aload_n 0, 0, [0]), (.getfield 168, 348, [0, 10, 21, 1]), (.getfield 409, 0, [10, 0, 0]), (.i2l, 0, []), (.invokestatic 219, 0, [38, 221, 0, 3, 5, 5, 5]), (.ifCond .ne 5, 0, [31]), (.iconst (-1), -1, []), (.ireturn, 0, [])]
def s98_31 : List E := [(.aload_n 0, 0, [0]), (.getfield 168, 348, [0, 10, 21, 1]), (.getfield 409, 0, [10, 0, 0]), (.iload_n 2, 0, [2]), (.iconst 1, 1, []), (.iadd, 0, []), (.invokestatic 529, 0, [1, 225, 0, 0, 0, 0]), (.istore 4, 0, [4]), (.aload_n 0, 0, [0]), (.iload 4, 0, [4]), (.invokevirtual 534, 0, [99, 0, 1, 223, 0, 3, 0]), (.ifCond .ne 6, 0, [58]), (.bipush (-3), -3, []), (.ireturn, 0, [])]
def s98_58 : List E := [(.iload 4, 0, [4]), (.bipush 64, 64, []), (.if_icmp .le 6, 0, [68]), (.bipush (-4), -4, []), (.ireturn, 0, [])]
def s98_68 : List E := [(.aload_n 0, 0, [0]), (.getfield 99, 7, [0, 6, 5, 1]), (.invokevirtual 306, 0, [473, 2, 5, 144, 0, 100]), (.aload_n 0, 0, [0]), (.getfield 99, 7, [0, 6, 5, 1]), (.invokevirtual 309, 0, [474, 2, 5, 205, 0, 7]), (.astore 5, 0, [5]), (.aload_n 0, 0, [0]), (.getfield 99, 7, [0, 6, 5, 1]), (.invokevirtual 309, 0, [474, 2, 5, 205, 0, 7]), (.astore 6, 0, [6]), (.aload 6, 0, [6]), (.iconst 0, 0, []), (.aload_n 0, 0, [0]), (.getfield 168, 348, [0, 10, 21, 1]), (.getfield 491, 0, [10, 2, 0]), (.invokestatic 494, 0, [178, 161, 0, 100, 0, 0, 7]), (.iconst 0, 0, []), (.istore 7, 0, [7]), (.nop, 0, [109])]
def s98_109 : List E := [(.iload 7, 0, [7]), (.iload 4, 0, [4]), (.if_icmp .ge 83, 0, [196]), (.iload 7, 0, [7]), (.iload_n 2, 0, [2]), (.if_icmp .ne 12, 0, [131]), (.aload_n 0, 0, [0]), (.aload 5, 0, [5]), (.invokevirtual 537, 0, [100, 0, 1, 95, 0, 100, 7]), (.goto 45, 0, [173])]
def s98_131 : List E := [(.aload 5, 0, [5]), (.aload_n 0, 0, [0]), (.getfield 168, 348, [0, 10, 21, 1]), (.getfield 540, 0, [10, 8, 7]), (.aload_n 0, 0, [0]), (.getfield 168, 348, [0, 10, 21, 1]), (.iload 7, 0, [7]), (.invokevirtual 433, 0, [149, 10, 21, 162, 0, 0, 0]), (.aload_n 0, 0, [0]), (.getfield 168, 348, [0, 10, 21, 1]), (.iload 7, 0, [7]), (.iconst 1, 1, []), (.iadd, 0, []), (.invokevirtual 433, 0, [149, 10, 21, 162, 0, 0, 0]), (.aload_n 0, 0, [0]), (.getfield 168, 348, [0, 10, 21, 1]), (.iload 7, 0, [7]), (.invokevirtual 433, 0, [149, 10, 21, 162, 0, 0, 0]), (.isub, 0, []), (.invokevirtual 74, 0, [115, 1, 3, 163, 0, 100, 0, 0, 7]), (.nop, 0, [173])]
def s98_173 : List E := [(.aload 6, 0, [6]), (.aload 5, 0, [5]), (.getfield 43, 0, [1, 1, 0]), (.aload_n 0, 0, [0]), (.getfield 168, 348, [0, 10, 21, 1]), (.getfield 491, 0, [10, 2, 0]), (.invokestatic 494, 0, [178, 161, 0, 100, 0, 0, 7]), (.iinc 7 1, 1, [7]), (.goto (-84), 0, [109])]
def s98_196 : List E := [(.aload_n 0, 0, [0]), (.getfield 99, 7, [0, 6, 5, 1]), (.getfield 103, 2, [2, 1, 93, 1]), (.iload_n 1, 0, [1]), (.aaload, 0, [46, 6]), (.astore 7, 0, [7]), (.aload 5, 0, [5]), (.getfield 81, 0, [1, 2, 3]), (.ifCond .ne 33, 0, [245]), (.aload 7, 0, [7]), (.getstatic 321, 1735162214, [5]), (.aload 5, 0, [5]), (.invokevirtual 324, 0, [484, 3, 7, 221, 0, 3, 7, 5]), (.ifCond .eq 20, 0, [245]), (.aload 7, 0, [7]), (.getstatic 334, 1819239265, [4]), (.aload 6, 0, [6]), (.invokevirtual 324, 0, [484, 3, 7, 221, 0, 3, 7, 5]), (.ifCond .eq 7, 0, [245]), (.iconst 1, 1, []), (.goto 4, 0, [246])]
def s98_245 : List E := [(.iconst 0, 0, []), (.nop, 0, [246])]
def s98_246 : List E := [(.istore 8, 0, [8]), (.iload 4, 0, [4]), (.aload_n 0, 0, [0]), (.getfield 168, 348, [0, 10, 21, 1]), (.getfield 409, 0, [10, 0, 0]), (.if_icmp .le 95, 0, [352]), (.iload 8, 0, [8]), (.ifCond .eq 90, 0, [352]), (.aload_n 0, 0, [0]), (.getfield 99, 7, [0, 6, 5, 1]), (.aload_n 0, 0, [0]), (.getfield 168, 348, [0, 10, 21, 1]), (.getfield 543, 0, [10, 4, 7]), (.invokevirtual 387, 0, [477, 2, 5, 120, 0, 7, 7]), (.astore 9, 0, [9]), (.aload 9, 0, [9]), (.iconst 4, 4, []), (.iload 4, 0, [4]), (.invokevirtual 482, 0, [125, 1, 3, 224, 0, 100, 0, 0]), (.aload_n 0, 0, [0]), (.getfield 99, 7, [0, 6, 5, 1]), (.aload_n 0, 0, [0]), (.getfield 168, 348, [0, 10, 21, 1]), (.getfield 479, 0, [10, 6, 7]), (.invokevirtual 387, 0, [477, 2, 5, 120, 0, 7, 7]), (.astore 10, 0, [10]), (.aload 10, 0, [10]), (.iconst 0, 0, []), (.invokevirtual 32, 0, [121, 1, 3, 204, 0, 100, 0]), (.aload 10, 0, [10]), (.getfield 81, 0, [1, 2, 3]), (.ifCond .ne 33, 0, [349]), (.aload 7, 0, [7]), (.getstatic 337, 1835104368, [1]), (.aload 9, 0, [9]), (.invokevirtual 324, 0, [484, 3, 7, 221, 0, 3, 7, 5]), (.ifCond .eq 20, 0, [349]), (.aload 7, 0, [7]), (.getstatic 331, 1752003704, [3]), (.aload 10, 0, [10]), (.invokevirtual 324, 0, [484, 3, 7, 221, 0, 3, 7, 5]), (.ifCond .eq 7, 0, [349]), (.iconst 1, 1, []), (.goto 4, 0, [350])]
def s98_349 : List E := [(.iconst 0, 0, []), (.nop, 0, [350])]
def s98_350 : List E := [(.istore 8, 0, [8]), (.nop, 0, [352])]
def s98_352 : List E := [(.aload 5, 0, [5]), (.getfield 43, 0, [1, 1, 0]), (.istore 9, 0, [9]), (.aload_n 0, 0, [0]), (.getfield 99, 7, [0, 6, 5, 1]), (.iload 8, 0, [8]), (.invokevirtual 340, 0, [475, 2, 5, 142, 0, 3, 3]), (.ifCond .eq 8, 0, [376]), (.iload 9, 0, [9]), (.goto 5, 0, [378])]
def s98_376 : List E := [(.bipush (-4), -4, []), (.nop, 0, [378])]
def s98_378 : List E := [(.ireturn, 0, [])]
def cd98 : List (Nat × List E) := [(0, s98_0), (12, s98_12), (31, s98_31), (58, s98_58), (68, s98_68), (109, s98_109), (131, s98_131), (173, s98_173), (196, s98_196), (245, s98_245), (246, s98_246), (349, s98_349), (350, s98_350), (352, s98_352), (376, s98_376), (378, s98_378)]
theorem l98_0 : lkc cd98 0 = s98_0 := rfl
theorem l98_12 : lkc cd98 12 = s98_12 := rfl
theorem l98_31 : lkc cd98 31 = s98_31 := rfl
theorem l98_58 : lkc cd98 58 = s98_58 := rfl
theorem l98_68 : lkc cd98 68 = s98_68 := rfl
theorem l98_109 : lkc cd98 109 = s98_109 := rfl
theorem l98_131 : lkc cd98 131 = s98_131 := rfl
theorem l98_173 : lkc cd98 173 = s98_173 := rfl
theorem l98_196 : lkc cd98 196 = s98_196 := rfl
theorem l98_245 : lkc cd98 245 = s98_245 := rfl
theorem l98_246 : lkc cd98 246 = s98_246 := rfl
theorem l98_349 : lkc cd98 349 = s98_349 := rfl
theorem l98_350 : lkc cd98 350 = s98_350 := rfl
theorem l98_352 : lkc cd98 352 = s98_352 := rfl
theorem l98_376 : lkc cd98 376 = s98_376 := rfl
theorem l98_378 : lkc cd98 378 = s98_378 := rfl
theorem k98 : chkM 98 0 true cd98 = true := by decide +kernel
/- FontHouse.canLay(I)Z -/
def s99_0 : List E := [(.aload_n 0, 0, [0]), (.getfield 500, 0, [0, 18, 3]), (.ifCond .ne 54, 0, [58]), (.aload_n 0, 0, [0]), (.getfield 206, 442, [0, 16, 23, 1]), (.getfield 423, 0, [11, 3, 0]), (.ifCond .le 13, 0, [27]), (.aload_n 0, 0, [0]), (.getfield 210, 458, [0, 17, 23, 1]), (.getfield 423, 0, [11, 3, 0]), (.ifCond .gt 34, 0, [58]), (.nop, 0, [27])]
def s99_27 : List E := [(.aload_n 0, 0, [0]), (.getfield 206, 442, [0, 16, 23, 1]), (.getfield 423, 0, [11, 3, 0]), (.aload_n 0, 0, [0]), (.getfield 210, 458, [0, 17, 23, 1]), (.getfield 423, 0, [11, 3, 0]), (.iadd, 0, []), (.ifCond .ne 18, 0, [60]), (.aload_n 0, 0, [0]), (.getfield 206, 442, [0, 16, 23, 1]), (.getfield 424, 13, [11, 15, 3, 1]), (.getfield 43, 0, [1, 1, 0]), (.ifCond .le 5, 0, [60]), (.nop, 0, [58])]
def s99_58 : List E := [(.iconst 0, 0, []), (.ireturn, 0, [1])]
def s99_60 : List E := [(.iconst 1, 1, []), (.istore_n 2, 0, [2]), (.iconst 0, 0, []), (.istore_n 3, 0, [3]), (.nop, 0, [64])]
def s99_64 : List E := [(.iload_n 3, 0, [3]), (.aload_n 0, 0, [0]), (.getfield 210, 458, [0, 17, 23, 1]), (.getfield 423, 0, [11, 3, 0]), (.if_icmp .ge 30, 0, [102]), (.iload_n 2, 0, [2]), (.aload_n 0, 0, [0]), (.getfield 210, 458, [0, 17, 23, 1]), (.getfield 457, 7, [11, 10, 81, 1]), (.iload_n 3, 0, [3]), (.iaload, 0, []), (.iload_n 1, 0, [1]), (.if_icmp .ge 7, 0, [93]), (.iconst 1, 1, []), (.goto 4, 0, [94])]
def s99_93 : List E := [(.iconst 0, 0, []), (.nop, 0, [94])]
def s99_94 : List E := [(.iand, 0, []), (.istore_n 2, 0, [2]), (.iinc 3 1, 1, [3]), (.goto (-35), 0, [64])]
def s99_102 : List E := [(.iload_n 2, 0, [2]), (.ireturn, 0, [1])]
def cd99 : List (Nat × List E) := [(0, s99_0), (27, s99_27), (58, s99_58), (60, s99_60), (64, s99_64), (93, s99_93), (94, s99_94), (102, s99_102)]
theorem l99_0 : lkc cd99 0 = s99_0 := rfl
theorem l99_27 : lkc cd99 27 = s99_27 := rfl
theorem l99_58 : lkc cd99 58 = s99_58 := rfl
theorem l99_60 : lkc cd99 60 = s99_60 := rfl
theorem l99_64 : lkc cd99 64 = s99_64 := rfl
theorem l99_93 : lkc cd99 93 = s99_93 := rfl
theorem l99_94 : lkc cd99 94 = s99_94 := rfl
theorem l99_102 : lkc cd99 102 = s99_102 := rfl
theorem k99 : chkM 99 0 true cd99 = true := by decide +kernel
/- FontHouse.layBench(LFontHouse$Bytes;)V -/
def s100_0 : List E := [(.aload_n 0, 0, [0]), (.getfield 206, 442, [0, 16, 23, 1]), (.getfield 423, 0, [11, 3, 0]), (.aload_n 0, 0, [0]), (.getfield 210, 458, [0, 17, 23, 1]), (.getfield 423, 0, [11, 3, 0]), (.iadd, 0, []), (.ifCond .ne 4, 0, [19]), (.return_, 0, [])]
def s100_19 : List E := [(.aload_n 0, 0, [0]), (.getfield 206, 442, [0, 16, 23, 1]), (.getfield 423, 0, [11, 3, 0]), (.ifCond .le 10, 0, [36]), (.aload_n 0, 0, [0]), (.getfield 206, 442, [0, 16, 23, 1]), (.goto 7, 0, [40])]
def s100_36 : List E := [(.aload_n 0, 0, [0]), (.getfield 210, 458, [0, 17, 23, 1]), (.nop, 0, [40])]
def s100_40 : List E := [(.astore_n 2, 0, [2]), (.aload_n 0, 0, [0]), (.getfield 206, 442, [0, 16, 23, 1]), (.getfield 509, 0, [11, 2, 3]), (.ifCond .eq 20, 0, [68]), (.aload_n 0, 0, [0]), (.getfield 213, 474, [0, 19, 81, 1]), (.iconst 0, 0, []), (.aload_n 2, 0, [2]), (.getfield 438, 1, [11, 1, 81, 1]), (.iconst 0, 0, []), (.iconst 4, 4, []), (.invokestatic 514, 0, [40, 68]), (.goto 40, 0, [105])]
def s100_68 : List E := [(.aload_n 0, 0, [0]), (.getfield 206, 442, [0, 16, 23, 1]), (.getfield 423, 0, [11, 3, 0]), (.ifCond .le 10, 0, [85]), (.aload_n 2, 0, [2]), (.invokevirtual 520, 0, [169, 11, 23, 70, 0, 100]), (.goto 23, 0, [105])]
def s100_85 : List E := [(.iconst 0, 0, []), (.istore_n 3, 0, [3]), (.nop, 0, [87])]
def s100_87 : List E := [(.iload_n 3, 0, [3]), (.iconst 4, 4, []), (.if_icmp .ge 16, 0, [105]), (.aload_n 2, 0, [2]), (.getfield 438, 1, [11, 1, 81, 1]), (.iload_n 3, 0, [3]), (.iconst 0, 0, []), (.iastore, 0, []), (.iinc 3 1, 1, [3]), (.goto (-15), 0, [87])]
def s100_105 : List E := [(.aload_n 0, 0, [0]), (.getfield 206, 442, [0, 16, 23, 1]), (.getfield 423, 0, [11, 3, 0]), (.ifCond .ne 7, 0, [119]), (.aload_n 0, 0, [0]), (.invokevirtual 523, 0, [101, 0, 1, 8, 0, 100]), (.nop, 0, [119])]
def s100_119 : List E := [(.aload_n 2, 0, [2]), (.aload_n 1, 0, [1]), (.invokevirtual 526, 0, [171, 11, 23, 8, 0, 100, 7]), (.return_, 0, [])]
def cd100 : List (Nat × List E) := [(0, s100_0), (19, s100_19), (36, s100_36), (40, s100_40), (68, s100_68), (85, s100_85), (87, s100_87), (105, s100_105), (119, s100_119)]
theorem l100_0 : lkc cd100 0 = s100_0 := rfl
theorem l100_19 : lkc cd100 19 = s100_19 := rfl
theorem l100_36 : lkc cd100 36 = s100_36 := rfl
theorem l100_40 : lkc cd100 40 = s100_40 := rfl
theorem l100_68 : lkc cd100 68 = s100_68 := rfl
theorem l100_85 : lkc cd100 85 = s100_85 := rfl
theorem l100_87 : lkc cd100 87 = s100_87 := rfl
theorem l100_105 : lkc cd100 105 = s100_105 := rfl
theorem l100_119 : lkc cd100 119 = s100_119 := rfl
theorem k100 : chkM 100 0 true cd100 = true := by decide +kernel
/- FontHouse.putParts()V -/
def s101_0 : List E := [(.aload_n 0, 0, [0]), (.getfield 210, 458, [0, 17, 23, 1]), (.iconst (-1), -1, []), (.putfield 420, 0, [11, 0, 0]), (.aload_n 0, 0, [0]), (.getfield 210, 458, [0, 17, 23, 1]), (.getfield 512, 11, [11, 14, 3, 1]), (.invokevirtual 58, 0, [112, 1, 3, 92, 0, 100]), (.iconst 0, 0, []), (.istore_n 1, 0, [1]), (.nop, 0, [20])]
def s101_20 : List E := [(.iload_n 1, 0, [1]), (.aload_n 0, 0, [0]), (.getfield 210, 458, [0, 17, 23, 1]), (.getfield 423, 0, [11, 3, 0]), (.if_icmp .ge 194, 0, [222]), (.aload_n 0, 0, [0]), (.getfield 210, 458, [0, 17, 23, 1]), (.getfield 454, 6, [11, 9, 81, 1]), (.iload_n 1, 0, [1]), (.iaload, 0, []), (.bipush (-33), -33, []), (.iand, 0, []), (.iload_n 1, 0, [1]), (.iconst 1, 1, []), (.iadd, 0, []), (.aload_n 0, 0, [0]), (.getfield 210, 458, [0, 17, 23, 1]), (.getfield 423, 0, [11, 3, 0]), (.if_icmp .ge 8, 0, [61]), (.bipush 32, 32, []), (.goto 4, 0, [62])]
def s101_61 : List E := [(.iconst 0, 0, []), (.nop, 0, [62])]
def s101_62 : List E := [(.ior, 0, []), (.istore_n 2, 0, [2]), (.aload_n 0, 0, [0]), (.getfield 210, 458, [0, 17, 23, 1]), (.getfield 454, 6, [11, 9, 81, 1]), (.iload_n 1, 0, [1]), (.iload_n 2, 0, [2]), (.iastore, 0, []), (.aload_n 0, 0, [0]), (.getfield 210, 458, [0, 17, 23, 1]), (.getfield 512, 11, [11, 14, 3, 1]), (.iload_n 2, 0, [2]), (.invokevirtual 32, 0, [121, 1, 3, 70, 0, 100, 0]), (.aload_n 0, 0, [0]), (.getfield 210, 458, [0, 17, 23, 1]), (.getfield 512, 11, [11, 14, 3, 1]), (.aload_n 0, 0, [0]), (.getfield 210, 458, [0, 17, 23, 1]), (.getfield 457, 7, [11, 10, 81, 1]), (.iload_n 1, 0, [1]), (.iaload, 0, []), (.invokevirtual 32, 0, [121, 1, 3, 70, 0, 100, 0]), (.iconst 0, 0, []), (.istore_n 3, 0, [3]), (.nop, 0, [106])]
def s101_106 : List E := [(.iload_n 3, 0, [3]), (.iconst 2, 2, []), (.if_icmp .ge 69, 0, [177]), (.iload_n 3, 0, [3]), (.ifCond .ne 15, 0, [127]), (.aload_n 0, 0, [0]), (.getfield 210, 458, [0, 17, 23, 1]), (.getfield 459, 8, [11, 11, 81, 1]), (.iload_n 1, 0, [1]), (.iaload, 0, []), (.goto 12, 0, [136])]
def s101_127 : List E := [(.aload_n 0, 0, [0]), (.getfield 210, 458, [0, 17, 23, 1]), (.getfield 462, 9, [11, 12, 81, 1]), (.iload_n 1, 0, [1]), (.iaload, 0, []), (.nop, 0, [136])]
def s101_136 : List E := [(.istore 4, 0, [4]), (.iload_n 2, 0, [2]), (.iconst 1, 1, []), (.iand, 0, []), (.ifCond .eq 18, 0, [159]), (.aload_n 0, 0, [0]), (.getfield 210, 458, [0, 17, 23, 1]), (.getfield 512, 11, [11, 14, 3, 1]), (.iload 4, 0, [4]), (.invokevirtual 32, 0, [121, 1, 3, 70, 0, 100, 0]), (.goto 15, 0, [171])]
def s101_159 : List E := [(.aload_n 0, 0, [0]), (.getfield 210, 458, [0, 17, 23, 1]), (.getfield 512, 11, [11, 14, 3, 1]), (.iload 4, 0, [4]), (.invokevirtual 240, 0, [113, 1, 3, 91, 0, 100, 0]), (.nop, 0, [171])]
def s101_171 : List E := [(.iinc 3 1, 1, [3]), (.goto (-68), 0, [106])]
def s101_177 : List E := [(.iconst 0, 0, []), (.istore_n 3, 0, [3]), (.nop, 0, [179])]
def s101_179 : List E := [(.iload_n 3, 0, [3]), (.iload_n 2, 0, [2]), (.invokestatic 465, 0, [161, 92, 0, 0, 0]), (.if_icmp .ge 32, 0, [216]), (.aload_n 0, 0, [0]), (.getfield 210, 458, [0, 17, 23, 1]), (.getfield 512, 11, [11, 14, 3, 1]), (.aload_n 0, 0, [0]), (.getfield 210, 458, [0, 17, 23, 1]), (.getfield 468, 10, [11, 13, 81, 1]), (.iconst 4, 4, []), (.iload_n 1, 0, [1]), (.imul, 0, []), (.iload_n 3, 0, [3]), (.iadd, 0, []), (.iaload, 0, []), (.invokevirtual 32, 0, [121, 1, 3, 70, 0, 100, 0]), (.iinc 3 1, 1, [3]), (.goto (-34), 0, [179])]
def s101_216 : List E := [(.iinc 1 1, 1, [1]), (.goto (-199), 0, [20])]
def s101_222 : List E := [(.aload_n 0, 0, [0]), (.getfield 210, 458, [0, 17, 23, 1]), (.getfield 424, 13, [11, 15, 3, 1]), (.aload_n 0, 0, [0]), (.getfield 206, 442, [0, 16, 23, 1]), (.getfield 424, 13, [11, 15, 3, 1]), (.invokevirtual 264, 0, [119, 1, 3, 8, 0, 100, 7]), (.return_, 0, [])]
def cd101 : List (Nat × List E) := [(0, s101_0), (20, s101_20), (61, s101_61), (62, s101_62), (106, s101_106), (127, s101_127), (136, s101_136), (159, s101_159), (171, s101_171), (177, s101_177), (179, s101_179), (216, s101_216), (222, s101_222)]
theorem l101_0 : lkc cd101 0 = s101_0 := rfl
theorem l101_20 : lkc cd101 20 = s101_20 := rfl
theorem l101_61 : lkc cd101 61 = s101_61 := rfl
theorem l101_62 : lkc cd101 62 = s101_62 := rfl
theorem l101_106 : lkc cd101 106 = s101_106 := rfl
theorem l101_127 : lkc cd101 127 = s101_127 := rfl
theorem l101_136 : lkc cd101 136 = s101_136 := rfl
theorem l101_159 : lkc cd101 159 = s101_159 := rfl
theorem l101_171 : lkc cd101 171 = s101_171 := rfl
theorem l101_177 : lkc cd101 177 = s101_177 := rfl
theorem l101_179 : lkc cd101 179 = s101_179 := rfl
theorem l101_216 : lkc cd101 216 = s101_216 := rfl
theorem l101_222 : lkc cd101 222 = s101_222 := rfl
theorem k101 : chkM 101 0 true cd101 = true := by decide +kernel
