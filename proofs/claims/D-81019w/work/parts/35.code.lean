set_option maxRecDepth 100000
/- Reader.give(I)V -/
def s142_0 : List E := [(.iconst 0, 0, []), (.istore_n 2, 0, [2]), (.iconst 0, 0, []), (.istore_n 3, 0, [3]), (.nop, 0, [4])]
def s142_4 : List E := [(.iload_n 3, 0, [3]), (.aload_n 0, 0, [0]), (.getfield 101, 0, [9, 1, 0]), (.if_icmp .ge 94, 0, [103]), (.aload_n 0, 0, [0]), (.getfield 3, -343, [9, 8, 1, 1]), (.getfield 127, 7, [0, 6, 5, 1]), (.getfield 151, 2, [2, 1, 93, 1]), (.iload_n 1, 0, [1]), (.iload_n 3, 0, [3]), (.iadd, 0, []), (.aaload, 0, [46, 6]), (.astore 4, 0, [4]), (.aload 4, 0, [4]), (.aload_n 0, 0, [0]), (.getfield 31, 0, [9, 0, 7]), (.aload_n 0, 0, [0]), (.getfield 15, 1, [9, 2, 81, 1]), (.iload_n 3, 0, [3]), (.iaload, 0, []), (.invokevirtual 50, 0, [117, 1, 3, 94, 0, 0, 0]), (.invokevirtual 155, 0, [483, 3, 7, 136, 0, 100, 0]), (.iconst 0, 0, []), (.istore 5, 0, [5]), (.nop, 0, [49])]
def s142_49 : List E := [(.iload 5, 0, [5]), (.aload_n 0, 0, [0]), (.getfield 19, 2, [9, 3, 81, 1]), (.iload_n 3, 0, [3]), (.iaload, 0, []), (.if_icmp .ge 40, 0, [97]), (.aload_n 0, 0, [0]), (.getfield 27, 4, [9, 6, 91, 1]), (.iload_n 2, 0, [2]), (.aload_n 0, 0, [0]), (.iload_n 2, 0, [2]), (.invokevirtual 161, 0, [143, 9, 19, 8, 0, 7, 0]), (.aastore, 0, [45, 1]), (.aload 4, 0, [4]), (.aload_n 0, 0, [0]), (.iload_n 2, 0, [2]), (.invokevirtual 78, 0, [135, 9, 19, 52, 0, 5, 0]), (.aload_n 0, 0, [0]), (.getfield 27, 4, [9, 6, 91, 1]), (.iload_n 2, 0, [2]), (.aaload, 0, [45, 2]), (.invokevirtual 165, 0, [484, 3, 7, 132, 0, 3, 7, 5]), (.pop, 0, []), (.iinc 2 1, 1, [2]), (.iinc 5 1, 1, [5]), (.goto (-45), 0, [49])]
def s142_97 : List E := [(.iinc 3 1, 1, [3]), (.goto (-96), 0, [4])]
def s142_103 : List E := [(.return_, 0, [])]
def cd142 : List (Nat × List E) := [(0, s142_0), (4, s142_4), (49, s142_49), (97, s142_97), (103, s142_103)]
theorem l142_0 : lkc cd142 0 = s142_0 := rfl
theorem l142_4 : lkc cd142 4 = s142_4 := rfl
theorem l142_49 : lkc cd142 49 = s142_49 := rfl
theorem l142_97 : lkc cd142 97 = s142_97 := rfl
theorem l142_103 : lkc cd142 103 = s142_103 := rfl
theorem k142 : chkM 142 9 true cd142 = true := by decide +kernel
/- Reader.bodyOf(I)LFontHouse$Bytes; -/
def s143_0 : List E := [(.iconst 0, 0, []), (.istore_n 2, 0, [2]), (.nop, 0, [2])]
def s143_2 : List E := [(.iload_n 2, 0, [2]), (.iload_n 1, 0, [1]), (.if_icmp .ge 25, 0, [29]), (.aload_n 0, 0, [0]), (.iload_n 2, 0, [2]), (.iload_n 1, 0, [1]), (.invokevirtual 120, 0, [139, 9, 19, 8, 0, 3, 0, 0]), (.ifCond .eq 10, 0, [23]), (.aload_n 0, 0, [0]), (.getfield 27, 4, [9, 6, 91, 1]), (.iload_n 2, 0, [2]), (.aaload, 0, [45, 2]), (.areturn, 0, [1, 2])]
def s143_23 : List E := [(.iinc 2 1, 1, [2]), (.goto (-24), 0, [2])]
def s143_29 : List E := [(.aload_n 0, 0, [0]), (.getfield 3, -343, [9, 8, 1, 1]), (.getfield 127, 7, [0, 6, 5, 1]), (.invokevirtual 131, 0, [474, 2, 5, 94, 0, 7]), (.astore_n 2, 0, [2]), (.aload_n 2, 0, [2]), (.aload_n 0, 0, [0]), (.getfield 31, 0, [9, 0, 7]), (.aload_n 0, 0, [0]), (.iload_n 1, 0, [1]), (.invokevirtual 81, 0, [136, 9, 19, 30, 0, 5, 0]), (.l2i, 0, []), (.aload_n 0, 0, [0]), (.iload_n 1, 0, [1]), (.invokevirtual 84, 0, [137, 9, 19, 30, 0, 5, 0]), (.l2i, 0, []), (.invokevirtual 137, 0, [115, 1, 3, 52, 0, 100, 0, 0, 7]), (.aload_n 2, 0, [2]), (.areturn, 0, [1, 2])]
def cd143 : List (Nat × List E) := [(0, s143_0), (2, s143_2), (23, s143_23), (29, s143_29)]
theorem l143_0 : lkc cd143 0 = s143_0 := rfl
theorem l143_2 : lkc cd143 2 = s143_2 := rfl
theorem l143_23 : lkc cd143 23 = s143_23 := rfl
theorem l143_29 : lkc cd143 29 = s143_29 := rfl
theorem k143 : chkM 143 9 true cd143 = true := by decide +kernel
/- View.<init>()V -/
def s144_0 : List E := [(.aload_n 0, 0, [0]), (.invokespecial 3, 0, [49]), (.aload_n 0, 0, [0]), (.new 9, 0, [11, 23, 20]), (.dup, 0, []), (.invokespecial 11, 0, [155, 11, 23, 8, 0, 100]), (.putfield 12, 0, [10, 10, 17]), (.return_, 0, [])]
def cd144 : List (Nat × List E) := [(0, s144_0)]
theorem l144_0 : lkc cd144 0 = s144_0 := rfl
theorem k144 : chkM 144 10 false cd144 = true := by decide +kernel
/- View.check(LFontHouse$Font;Z)I -/
def s145_0 : List E := [(.aload_n 0, 0, [0]), (.aload_n 1, 0, [1]), (.getstatic 51, 1751474532, [0]), (.invokevirtual 55, 0, [487, 3, 7, 155, 0, 7, 5]), (.putfield 61, 0, [10, 3, 7]), (.aload_n 0, 0, [0]), (.aload_n 1, 0, [1]), (.getstatic 64, 1835104368, [1]), (.invokevirtual 55, 0, [487, 3, 7, 155, 0, 7, 5]), (.putfield 67, 0, [10, 4, 7]), (.aload_n 0, 0, [0]), (.aload_n 1, 0, [1]), (.getstatic 70, 1751672161, [2]), (.invokevirtual 55, 0, [487, 3, 7, 155, 0, 7, 5]), (.putfield 73, 0, [10, 5, 7]), (.aload_n 0, 0, [0]), (.aload_n 1, 0, [1]), (.getstatic 76, 1752003704, [3]), (.invokevirtual 55, 0, [487, 3, 7, 155, 0, 7, 5]), (.putfield 79, 0, [10, 6, 7]), (.aload_n 0, 0, [0]), (.aload_n 1, 0, [1]), (.getstatic 82, 1819239265, [4]), (.invokevirtual 55, 0, [487, 3, 7, 155, 0, 7, 5]), (.putfield 25, 0, [10, 7, 7]), (.aload_n 0, 0, [0]), (.aload_n 1, 0, [1]), (.getstatic 85, 1735162214, [5]), (.invokevirtual 55, 0, [487, 3, 7, 155, 0, 7, 5]), (.putfield 38, 0, [10, 8, 7]), (.aload_n 0, 0, [0]), (.getfield 61, 0, [10, 3, 7]), (.ifnonnull 7, 0, [77]), (.iconst 0, 0, []), (.goto 63, 0, [137])]
def s145_77 : List E := [(.aload_n 0, 0, [0]), (.getfield 67, 0, [10, 4, 7]), (.ifnonnull 7, 0, [88]), (.iconst 1, 1, []), (.goto 52, 0, [137])]
def s145_88 : List E := [(.aload_n 0, 0, [0]), (.getfield 73, 0, [10, 5, 7]), (.ifnonnull 7, 0, [99]), (.iconst 2, 2, []), (.goto 41, 0, [137])]
def s145_99 : List E := [(.aload_n 0, 0, [0]), (.getfield 79, 0, [10, 6, 7]), (.ifnonnull 11, 0, [114]), (.iload_n 2, 0, [2]), (.ifCond .eq 7, 0, [114]), (.iconst 3, 3, []), (.goto 26, 0, [137])]
def s145_114 : List E := [(.aload_n 0, 0, [0]), (.getfield 25, 0, [10, 7, 7]), (.ifnonnull 7, 0, [125]), (.iconst 4, 4, []), (.goto 15, 0, [137])]
def s145_125 : List E := [(.aload_n 0, 0, [0]), (.getfield 38, 0, [10, 8, 7]), (.ifnonnull 7, 0, [136]), (.iconst 5, 5, []), (.goto 4, 0, [137])]
def s145_136 : List E := [(.iconst (-1), -1, []), (.nop, 0, [137])]
def s145_137 : List E := [(.istore_n 3, 0, [3]), (.iload_n 3, 0, [3]), (.ifCond .lt 11, 0, [150]), (.aload_n 0, 0, [0]), (.bipush 31, 31, []), (.iload_n 3, 0, [3]), (.invokevirtual 88, 0, [146, 10, 21, 179, 0, 0, 0, 0]), (.ireturn, 0, [])]
def s145_150 : List E := [(.aload_n 0, 0, [0]), (.invokevirtual 92, 0, [147, 10, 21, 118, 0, 0]), (.istore 4, 0, [4]), (.iload 4, 0, [4]), (.ifCond .le 6, 0, [164]), (.iload 4, 0, [4]), (.ireturn, 0, [])]
def s145_164 : List E := [(.iload_n 2, 0, [2]), (.ifCond .eq 39, 0, [204]), (.aload_n 0, 0, [0]), (.getfield 79, 0, [10, 6, 7]), (.getfield 96, 0, [1, 1, 0]), (.iconst 4, 4, []), (.aload_n 0, 0, [0]), (.getfield 99, 0, [10, 1, 0]), (.imul, 0, []), (.iconst 2, 2, []), (.aload_n 0, 0, [0]), (.getfield 44, 0, [10, 0, 0]), (.aload_n 0, 0, [0]), (.getfield 99, 0, [10, 1, 0]), (.isub, 0, []), (.imul, 0, []), (.iadd, 0, []), (.if_icmp .eq 11, 0, [204]), (.aload_n 0, 0, [0]), (.bipush 35, 35, []), (.iconst 0, 0, []), (.invokevirtual 88, 0, [146, 10, 21, 179, 0, 0, 0, 0]), (.ireturn, 0, [])]
def s145_204 : List E := [(.aload_n 0, 0, [0]), (.invokevirtual 102, 0, [148, 10, 21, 8, 0, 0]), (.ireturn, 0, [])]
def cd145 : List (Nat × List E) := [(0, s145_0), (77, s145_77), (88, s145_88), (99, s145_99), (114, s145_114), (125, s145_125), (136, s145_136), (137, s145_137), (150, s145_150), (164, s145_164), (204, s145_204)]
theorem l145_0 : lkc cd145 0 = s145_0 := rfl
theorem l145_77 : lkc cd145 77 = s145_77 := rfl
theorem l145_88 : lkc cd145 88 = s145_88 := rfl
theorem l145_99 : lkc cd145 99 = s145_99 := rfl
theorem l145_114 : lkc cd145 114 = s145_114 := rfl
theorem l145_125 : lkc cd145 125 = s145_125 := rfl
theorem l145_136 : lkc cd145 136 = s145_136 := rfl
theorem l145_137 : lkc cd145 137 = s145_137 := rfl
theorem l145_150 : lkc cd145 150 = s145_150 := rfl
theorem l145_164 : lkc cd145 164 = s145_164 := rfl
theorem l145_204 : lkc cd145 204 = s145_204 := rfl
theorem k145 : chkM 145 10 true cd145 = true := by decide +kernel
/- View.wrong(II)I -/
def s146_0 : List E := [(.aload_n 0, 0, [0]), (.iload_n 2, 0, [2]), (.putfield 18, 0, [10, 9, 0]), (.iload_n 1, 0, [1]), (.ireturn, 0, [])]
def cd146 : List (Nat × List E) := [(0, s146_0)]
theorem l146_0 : lkc cd146 0 = s146_0 := rfl
theorem k146 : chkM 146 10 true cd146 = true := by decide +kernel
/- View.numbers()I -/
def s147_0 : List E := [(.aload_n 0, 0, [0]), (.getfield 61, 0, [10, 3, 7]), (.getfield 96, 0, [1, 1, 0]), (.bipush 54, 54, []), (.if_icmp .eq 11, 0, [20]), (.aload_n 0, 0, [0]), (.bipush 32, 32, []), (.iconst 0, 0, []), (.invokevirtual 88, 0, [146, 10, 21, 49, 0, 0, 0, 0]), (.ireturn, 0, [])]
def s147_20 : List E := [(.aload_n 0, 0, [0]), (.getfield 61, 0, [10, 3, 7]), (.bipush 12, 12, []), (.invokevirtual 35, 0, [117, 1, 3, 8, 0, 0, 0]), (.ldc 105, 1594834165, []), (.if_icmp .eq 12, 0, [43]), (.aload_n 0, 0, [0]), (.bipush 32, 32, []), (.bipush 12, 12, []), (.invokevirtual 88, 0, [146, 10, 21, 49, 0, 0, 0, 0]), (.ireturn, 0, [])]
def s147_43 : List E := [(.aload_n 0, 0, [0]), (.aload_n 0, 0, [0]), (.getfield 61, 0, [10, 3, 7]), (.bipush 50, 50, []), (.invokevirtual 29, 0, [118, 1, 3, 29, 0, 0, 0]), (.putfield 22, 0, [10, 2, 0]), (.aload_n 0, 0, [0]), (.getfield 22, 0, [10, 2, 0]), (.iconst 1, 1, []), (.if_icmp .le 12, 0, [73]), (.aload_n 0, 0, [0]), (.bipush 32, 32, []), (.bipush 50, 50, []), (.invokevirtual 88, 0, [146, 10, 21, 49, 0, 0, 0, 0]), (.ireturn, 0, [])]
def s147_73 : List E := [(.aload_n 0, 0, [0]), (.getfield 67, 0, [10, 4, 7]), (.getfield 96, 0, [1, 1, 0]), (.bipush 6, 6, []), (.if_icmp .ge 11, 0, [93]), (.aload_n 0, 0, [0]), (.bipush 33, 33, []), (.iconst 0, 0, []), (.invokevirtual 88, 0, [146, 10, 21, 49, 0, 0, 0, 0]), (.ireturn, 0, [])]
def s147_93 : List E := [(.aload_n 0, 0, [0]), (.aload_n 0, 0, [0]), (.getfield 67, 0, [10, 4, 7]), (.iconst 4, 4, []), (.invokevirtual 29, 0, [118, 1, 3, 29, 0, 0, 0]), (.putfield 44, 0, [10, 0, 0]), (.aload_n 0, 0, [0]), (.getfield 44, 0, [10, 0, 0]), (.i2l, 0, []), (.lconst 1, 1, []), (.ldc2_w 106, 64, []), (.invokestatic 108, 0, [38, 46, 0, 3, 5, 5, 5]), (.ifCond .ne 11, 0, [128]), (.aload_n 0, 0, [0]), (.bipush 33, 33, []), (.iconst 4, 4, []), (.invokevirtual 88, 0, [146, 10, 21, 49, 0, 0, 0, 0]), (.ireturn, 0, [])]
def s147_128 : List E := [(.aload_n 0, 0, [0]), (.getfield 73, 0, [10, 5, 7]), (.getfield 96, 0, [1, 1, 0]), (.bipush 36, 36, []), (.if_icmp .eq 11, 0, [148]), (.aload_n 0, 0, [0]), (.bipush 34, 34, []), (.iconst 0, 0, []), (.invokevirtual 88, 0, [146, 10, 21, 49, 0, 0, 0, 0]), (.ireturn, 0, [])]
def s147_148 : List E := [(.aload_n 0, 0, [0]), (.aload_n 0, 0, [0]), (.getfield 73, 0, [10, 5, 7]), (.bipush 34, 34, []), (.invokevirtual 29, 0, [118, 1, 3, 29, 0, 0, 0]), (.putfield 99, 0, [10, 1, 0]), (.aload_n 0, 0, [0]), (.getfield 99, 0, [10, 1, 0]), (.i2l, 0, []), (.lconst 1, 1, []), (.aload_n 0, 0, [0]), (.getfield 44, 0, [10, 0, 0]), (.i2l, 0, []), (.invokestatic 108, 0, [38, 46, 0, 3, 5, 5, 5]), (.ifCond .eq 7, 0, [182]), (.iconst 0, 0, []), (.goto 11, 0, [190])]
def s147_182 : List E := [(.aload_n 0, 0, [0]), (.bipush 34, 34, []), (.bipush 34, 34, []), (.invokevirtual 88, 0, [146, 10, 21, 49, 0, 0, 0, 0]), (.nop, 0, [190])]
def s147_190 : List E := [(.ireturn, 0, [])]
def cd147 : List (Nat × List E) := [(0, s147_0), (20, s147_20), (43, s147_43), (73, s147_73), (93, s147_93), (128, s147_128), (148, s147_148), (182, s147_182), (190, s147_190)]
theorem l147_0 : lkc cd147 0 = s147_0 := rfl
theorem l147_20 : lkc cd147 20 = s147_20 := rfl
theorem l147_43 : lkc cd147 43 = s147_43 := rfl
theorem l147_73 : lkc cd147 73 = s147_73 := rfl
theorem l147_93 : lkc cd147 93 = s147_93 := rfl
theorem l147_128 : lkc cd147 128 = s147_128 := rfl
theorem l147_148 : lkc cd147 148 = s147_148 := rfl
theorem l147_182 : lkc cd147 182 = s147_182 := rfl
theorem l147_190 : lkc cd147 190 = s147_190 := rfl
theorem k147 : chkM 147 10 true cd147 = true := by decide +kernel
/- View.records()I -/
def s148_0 : List E := [(.aload_n 0, 0, [0]), (.getfield 25, 0, [10, 7, 7]), (.getfield 96, 0, [1, 1, 0]), (.aload_n 0, 0, [0]), (.getfield 44, 0, [10, 0, 0]), (.iconst 1, 1, []), (.iadd, 0, []), (.aload_n 0, 0, [0]), (.getfield 22, 0, [10, 2, 0]), (.ifCond .ne 7, 0, [24]), (.iconst 2, 2, []), (.goto 4, 0, [25])]
def s148_24 : List E := [(.iconst 4, 4, []), (.nop, 0, [25])]
def s148_25 : List E := [(.imul, 0, []), (.if_icmp .eq 11, 0, [37]), (.aload_n 0, 0, [0]), (.bipush 36, 36, []), (.iconst 0, 0, []), (.invokevirtual 88, 0, [146, 10, 21, 158, 0, 0, 0, 0]), (.ireturn, 0, [])]
def s148_37 : List E := [(.aload_n 0, 0, [0]), (.iconst 0, 0, []), (.invokevirtual 41, 0, [149, 10, 21, 96, 0, 0, 0]), (.ifCond .eq 11, 0, [53]), (.aload_n 0, 0, [0]), (.bipush 36, 36, []), (.iconst 0, 0, []), (.invokevirtual 88, 0, [146, 10, 21, 158, 0, 0, 0, 0]), (.ireturn, 0, [])]
def s148_53 : List E := [(.iconst 1, 1, []), (.istore_n 1, 0, [1]), (.nop, 0, [55])]
def s148_55 : List E := [(.iload_n 1, 0, [1]), (.aload_n 0, 0, [0]), (.getfield 44, 0, [10, 0, 0]), (.if_icmp .gt 43, 0, [103]), (.aload_n 0, 0, [0]), (.iload_n 1, 0, [1]), (.invokevirtual 41, 0, [149, 10, 21, 96, 0, 0, 0]), (.i2l, 0, []), (.ldc2_w 112, 4294967295, []), (.land, 0, []), (.aload_n 0, 0, [0]), (.iload_n 1, 0, [1]), (.iconst 1, 1, []), (.isub, 0, []), (.invokevirtual 41, 0, [149, 10, 21, 96, 0, 0, 0]), (.i2l, 0, []), (.ldc2_w 112, 4294967295, []), (.land, 0, []), (.lcmp, 0, []), (.ifCond .ge 11, 0, [97]), (.aload_n 0, 0, [0]), (.bipush 36, 36, []), (.iload_n 1, 0, [1]), (.invokevirtual 88, 0, [146, 10, 21, 158, 0, 0, 0, 0]), (.ireturn, 0, [])]
def s148_97 : List E := [(.iinc 1 1, 1, [1]), (.goto (-45), 0, [55])]
def s148_103 : List E := [(.aload_n 0, 0, [0]), (.aload_n 0, 0, [0]), (.getfield 44, 0, [10, 0, 0]), (.invokevirtual 41, 0, [149, 10, 21, 96, 0, 0, 0]), (.aload_n 0, 0, [0]), (.getfield 38, 0, [10, 8, 7]), (.getfield 96, 0, [1, 1, 0]), (.if_icmp .eq 14, 0, [132]), (.aload_n 0, 0, [0]), (.bipush 36, 36, []), (.aload_n 0, 0, [0]), (.getfield 44, 0, [10, 0, 0]), (.invokevirtual 88, 0, [146, 10, 21, 158, 0, 0, 0, 0]), (.ireturn, 0, [])]
def s148_132 : List E := [(.iconst 0, 0, []), (.istore_n 1, 0, [1]), (.nop, 0, [134])]
def s148_134 : List E := [(.iload_n 1, 0, [1]), (.aload_n 0, 0, [0]), (.getfield 44, 0, [10, 0, 0]), (.if_icmp .ge 25, 0, [164]), (.aload_n 0, 0, [0]), (.iload_n 1, 0, [1]), (.invokevirtual 114, 0, [150, 10, 21, 8, 0, 3, 0]), (.ifCond .ne 11, 0, [158]), (.aload_n 0, 0, [0]), (.bipush 37, 37, []), (.iload_n 1, 0, [1]), (.invokevirtual 88, 0, [146, 10, 21, 158, 0, 0, 0, 0]), (.ireturn, 0, [])]
def s148_158 : List E := [(.iinc 1 1, 1, [1]), (.goto (-27), 0, [134])]
def s148_164 : List E := [(.iconst 0, 0, []), (.ireturn, 0, [])]
def cd148 : List (Nat × List E) := [(0, s148_0), (24, s148_24), (25, s148_25), (37, s148_37), (53, s148_53), (55, s148_55), (97, s148_97), (103, s148_103), (132, s148_132), (134, s148_134), (158, s148_158), (164, s148_164)]
theorem l148_0 : lkc cd148 0 = s148_0 := rfl
theorem l148_24 : lkc cd148 24 = s148_24 := rfl
theorem l148_25 : lkc cd148 25 = s148_25 := rfl
theorem l148_37 : lkc cd148 37 = s148_37 := rfl
theorem l148_53 : lkc cd148 53 = s148_53 := rfl
theorem l148_55 : lkc cd148 55 = s148_55 := rfl
theorem l148_97 : lkc cd148 97 = s148_97 := rfl
theorem l148_103 : lkc cd148 103 = s148_103 := rfl
theorem l148_132 : lkc cd148 132 = s148_132 := rfl
theorem l148_134 : lkc cd148 134 = s148_134 := rfl
theorem l148_158 : lkc cd148 158 = s148_158 := rfl
theorem l148_164 : lkc cd148 164 = s148_164 := rfl
theorem k148 : chkM 148 10 true cd148 = true := by decide +kernel
/- View.begin(I)I -/
def s149_0 : List E := [(.aload_n 0, 0, [0]), (.getfield 22, 0, [10, 2, 0]), (.ifCond .ne 18, 0, [22]), (.iconst 2, 2, []), (.aload_n 0, 0, [0]), (.getfield 25, 0, [10, 7, 7]), (.iconst 2, 2, []), (.iload_n 1, 0, [1]), (.imul, 0, []), (.invokevirtual 29, 0, [118, 1, 3, 29, 0, 0, 0]), (.imul, 0, []), (.goto 13, 0, [32])]
def s149_22 : List E := [(.aload_n 0, 0, [0]), (.getfield 25, 0, [10, 7, 7]), (.iconst 4, 4, []), (.iload_n 1, 0, [1]), (.imul, 0, []), (.invokevirtual 35, 0, [117, 1, 3, 8, 0, 0, 0]), (.nop, 0, [32])]
def s149_32 : List E := [(.ireturn, 0, [])]
def cd149 : List (Nat × List E) := [(0, s149_0), (22, s149_22), (32, s149_32)]
theorem l149_0 : lkc cd149 0 = s149_0 := rfl
theorem l149_22 : lkc cd149 22 = s149_22 := rfl
theorem l149_32 : lkc cd149 32 = s149_32 := rfl
theorem k149 : chkM 149 10 true cd149 = true := by decide +kernel
/- View.read(I)Z -/
def s150_0 : List E := [(.aload_n 0, 0, [0]), (.getfield 12, 1, [10, 10, 23, 1]), (.aload_n 0, 0, [0]), (.getfield 38, 0, [10, 8, 7]), (.aload_n 0, 0, [0]), (.iload_n 1, 0, [1]), (.invokevirtual 41, 0, [149, 10, 21, 75, 0, 0, 0]), (.aload_n 0, 0, [0]), (.iload_n 1, 0, [1]), (.iconst 1, 1, []), (.iadd, 0, []), (.invokevirtual 41, 0, [149, 10, 21, 75, 0, 0, 0]), (.aload_n 0, 0, [0]), (.getfield 44, 0, [10, 0, 0]), (.invokevirtual 47, 0, [157, 11, 23, 8, 0, 3, 0, 0, 0, 7]), (.ireturn, 0, [1])]
def cd150 : List (Nat × List E) := [(0, s150_0)]
theorem l150_0 : lkc cd150 0 = s150_0 := rfl
theorem k150 : chkM 150 10 true cd150 = true := by decide +kernel
/- View.advance(I)I -/
def s151_0 : List E := [(.aload_n 0, 0, [0]), (.getfield 79, 0, [10, 6, 7]), (.iconst 4, 4, []), (.iload_n 1, 0, [1]), (.aload_n 0, 0, [0]), (.getfield 99, 0, [10, 1, 0]), (.iconst 1, 1, []), (.isub, 0, []), (.invokestatic 117, 0, [0, 29, 0, 0, 0, 0]), (.imul, 0, []), (.invokevirtual 29, 0, [118, 1, 3, 8, 0, 0, 0]), (.ireturn, 0, [])]
def cd151 : List (Nat × List E) := [(0, s151_0)]
theorem l151_0 : lkc cd151 0 = s151_0 := rfl
theorem k151 : chkM 151 10 true cd151 = true := by decide +kernel
/- View.bearing(I)I -/
def s152_0 : List E := [(.aload_n 0, 0, [0]), (.getfield 79, 0, [10, 6, 7]), (.iload_n 1, 0, [1]), (.aload_n 0, 0, [0]), (.getfield 99, 0, [10, 1, 0]), (.invokestatic 122, 0, [153, 50, 0, 0, 0, 0]), (.invokevirtual 125, 0, [126, 1, 3, 8, 0, 0, 0]), (.ireturn, 0, [])]
def cd152 : List (Nat × List E) := [(0, s152_0)]
theorem l152_0 : lkc cd152 0 = s152_0 := rfl
theorem k152 : chkM 152 10 true cd152 = true := by decide +kernel
/- View.bearingAt(II)I -/
def s153_0 : List E := [(.iload_n 0, 0, [0]), (.iload_n 1, 0, [1]), (.if_icmp .ge 11, 0, [13]), (.iconst 4, 4, []), (.iload_n 0, 0, [0]), (.imul, 0, []), (.iconst 2, 2, []), (.iadd, 0, []), (.goto 12, 0, [22])]
def s153_13 : List E := [(.iconst 4, 4, []), (.iload_n 1, 0, [1]), (.imul, 0, []), (.iconst 2, 2, []), (.iload_n 0, 0, [0]), (.iload_n 1, 0, [1]), (.isub, 0, []), (.imul, 0, []), (.iadd, 0, []), (.nop, 0, [22])]
def s153_22 : List E := [(.ireturn, 0, [])]
def cd153 : List (Nat × List E) := [(0, s153_0), (13, s153_13), (22, s153_22)]
theorem l153_0 : lkc cd153 0 = s153_0 := rfl
theorem l153_13 : lkc cd153 13 = s153_13 := rfl
theorem l153_22 : lkc cd153 22 = s153_22 := rfl
theorem k153 : chkM 153 10 true cd153 = true := by decide +kernel
/- View.leastX(I)I -/
def s154_0 : List E := [(.aload_n 0, 0, [0]), (.iload_n 1, 0, [1]), (.invokevirtual 114, 0, [150, 10, 21, 8, 0, 3, 0]), (.pop, 0, []), (.aload_n 0, 0, [0]), (.getfield 12, 1, [10, 10, 23, 1]), (.getfield 128, 0, [11, 0, 0]), (.ifCond .ne 7, 0, [20]), (.iconst 0, 0, []), (.goto 12, 0, [29])]
def s154_20 : List E := [(.aload_n 0, 0, [0]), (.getfield 12, 1, [10, 10, 23, 1]), (.getfield 131, 1, [11, 1, 81, 1]), (.iconst 0, 0, []), (.iaload, 0, []), (.nop, 0, [29])]
def s154_29 : List E := [(.ireturn, 0, [])]
def cd154 : List (Nat × List E) := [(0, s154_0), (20, s154_20), (29, s154_29)]
theorem l154_0 : lkc cd154 0 = s154_0 := rfl
theorem l154_20 : lkc cd154 20 = s154_20 := rfl
theorem l154_29 : lkc cd154 29 = s154_29 := rfl
theorem k154 : chkM 154 10 true cd154 = true := by decide +kernel
/- Glyph.<init>()V -/
def s155_0 : List E := [(.aload_n 0, 0, [0]), (.invokespecial 3, 0, [29]), (.aload_n 0, 0, [0]), (.iconst 4, 4, []), (.newarray .int, 0, [40, 81]), (.putfield 9, 0, [11, 1, 46]), (.aload_n 0, 0, [0]), (.sipush 256, 256, []), (.newarray .int, 0, [40, 81]), (.putfield 15, 0, [11, 4, 46]), (.aload_n 0, 0, [0]), (.sipush 256, 256, []), (.newarray .int, 0, [40, 81]), (.putfield 18, 0, [11, 5, 46]), (.aload_n 0, 0, [0]), (.sipush 256, 256, []), (.newarray .boolean, 0, [44, 89]), (.putfield 21, 0, [11, 6, 50]), (.aload_n 0, 0, [0]), (.bipush 32, 32, []), (.newarray .int, 0, [40, 81]), (.putfield 25, 0, [11, 7, 46]), (.aload_n 0, 0, [0]), (.bipush 16, 16, []), (.newarray .int, 0, [40, 81]), (.putfield 28, 0, [11, 9, 46]), (.aload_n 0, 0, [0]), (.bipush 16, 16, []), (.newarray .int, 0, [40, 81]), (.putfield 31, 0, [11, 10, 46]), (.aload_n 0, 0, [0]), (.bipush 16, 16, []), (.newarray .int, 0, [40, 81]), (.putfield 34, 0, [11, 11, 46]), (.aload_n 0, 0, [0]), (.bipush 16, 16, []), (.newarray .int, 0, [40, 81]), (.putfield 37, 0, [11, 12, 46]), (.aload_n 0, 0, [0]), (.bipush 64, 64, []), (.newarray .int, 0, [40, 81]), (.putfield 40, 0, [11, 13, 46]), (.aload_n 0, 0, [0]), (.new 43, 0, [1, 3, 4]), (.dup, 0, []), (.sipush 256, 256, []), (.invokespecial 45, 0, [111, 1, 3, 8, 0, 100, 0]), (.putfield 48, 0, [11, 14, 7]), (.aload_n 0, 0, [0]), (.new 43, 0, [1, 3, 4]), (.dup, 0, []), (.sipush 300, 300, []), (.invokespecial 45, 0, [111, 1, 3, 8, 0, 100, 0]), (.putfield 52, 0, [11, 15, 7]), (.aload_n 0, 0, [0]), (.sipush 256, 256, []), (.newarray .int, 0, [40, 81]), (.putfield 55, 0, [11, 19, 46]), (.return_, 0, [])]
def cd155 : List (Nat × List E) := [(0, s155_0)]
theorem l155_0 : lkc cd155 0 = s155_0 := rfl
theorem k155 : chkM 155 11 false cd155 = true := by decide +kernel
/- Glyph.clear()V -/
def s156_0 : List E := [(.aload_n 0, 0, [0]), (.iconst 0, 0, []), (.putfield 58, 0, [11, 0, 0]), (.aload_n 0, 0, [0]), (.iconst 0, 0, []), (.putfield 62, 0, [11, 2, 3]), (.iconst 0, 0, []), (.istore_n 1, 0, [1]), (.nop, 0, [12])]
def s156_12 : List E := [(.iload_n 1, 0, [1]), (.iconst 4, 4, []), (.if_icmp .ge 16, 0, [30]), (.aload_n 0, 0, [0]), (.getfield 9, 1, [11, 1, 81, 1]), (.iload_n 1, 0, [1]), (.iconst 0, 0, []), (.iastore, 0, []), (.iinc 1 1, 1, [1]), (.goto (-15), 0, [12])]
def s156_30 : List E := [(.aload_n 0, 0, [0]), (.iconst 0, 0, []), (.putfield 66, 0, [11, 3, 0]), (.aload_n 0, 0, [0]), (.iconst 0, 0, []), (.putfield 69, 0, [11, 8, 3]), (.aload_n 0, 0, [0]), (.getfield 48, 11, [11, 14, 3, 1]), (.invokevirtual 72, 0, [112, 1, 3, 8, 0, 100]), (.aload_n 0, 0, [0]), (.getfield 52, 13, [11, 15, 3, 1]), (.invokevirtual 72, 0, [112, 1, 3, 8, 0, 100]), (.return_, 0, [])]
def cd156 : List (Nat × List E) := [(0, s156_0), (12, s156_12), (30, s156_30)]
theorem l156_0 : lkc cd156 0 = s156_0 := rfl
theorem l156_12 : lkc cd156 12 = s156_12 := rfl
theorem l156_30 : lkc cd156 30 = s156_30 := rfl
theorem k156 : chkM 156 11 true cd156 = true := by decide +kernel
/- Glyph.read(LFontHouse$Bytes;III)Z -/
def s157_0 : List E := [(.aload_n 0, 0, [0]), (.invokevirtual 103, 0, [156, 11, 23, 93, 0, 100]), (.iload_n 2, 0, [2]), (.iload_n 3, 0, [3]), (.if_icmp .ne 5, 0, [11]), (.iconst 1, 1, []), (.ireturn, 0, [1])]
def s157_11 : List E := [(.aload_n 0, 0, [0]), (.aload_n 1, 0, [1]), (.putfield 94, 0, [11, 16, 7]), (.aload_n 0, 0, [0]), (.iload_n 2, 0, [2]), (.putfield 91, 0, [11, 17, 0]), (.aload_n 0, 0, [0]), (.iload_n 3, 0, [3]), (.putfield 88, 0, [11, 18, 0]), (.aload_n 0, 0, [0]), (.bipush 10, 10, []), (.invokevirtual 104, 0, [158, 11, 23, 113, 0, 3, 0]), (.ifCond .ne 5, 0, [37]), (.iconst 0, 0, []), (.ireturn, 0, [1])]
def s157_37 : List E := [(.aload_n 0, 0, [0]), (.aload_n 0, 0, [0]), (.invokevirtual 108, 0, [159, 11, 23, 72, 0, 0]), (.i2s, 0, []), (.putfield 58, 0, [11, 0, 0]), (.iconst 0, 0, []), (.istore 5, 0, [5]), (.nop, 0, [49])]
def s157_49 : List E := [(.iload 5, 0, [5]), (.iconst 4, 4, []), (.if_icmp .ge 21, 0, [73]), (.aload_n 0, 0, [0]), (.getfield 9, 1, [11, 1, 81, 1]), (.iload 5, 0, [5]), (.aload_n 0, 0, [0]), (.invokevirtual 108, 0, [159, 11, 23, 72, 0, 0]), (.i2s, 0, []), (.iastore, 0, []), (.iinc 5 1, 1, [5]), (.goto (-21), 0, [49])]
def s157_73 : List E := [(.aload_n 0, 0, [0]), (.iconst 1, 1, []), (.putfield 62, 0, [11, 2, 3]), (.aload_n 0, 0, [0]), (.getfield 58, 0, [11, 0, 0]), (.iconst (-1), -1, []), (.if_icmp .ne 34, 0, [117]), (.aload_n 0, 0, [0]), (.iload 4, 0, [4]), (.invokevirtual 112, 0, [160, 11, 23, 24, 0, 3, 0]), (.ifCond .eq 21, 0, [113]), (.aload_n 0, 0, [0]), (.invokevirtual 115, 0, [164, 11, 23, 112, 0, 3]), (.ifCond .eq 10, 0, [109]), (.aload_n 0, 0, [0]), (.invokevirtual 119, 0, [165, 11, 23, 30, 0, 3]), (.ifCond .eq 7, 0, [113]), (.nop, 0, [109])]
def s157_109 : List E := [(.iconst 1, 1, []), (.goto 34, 0, [144])]
def s157_113 : List E := [(.iconst 0, 0, []), (.goto 30, 0, [144])]
def s157_117 : List E := [(.aload_n 0, 0, [0]), (.getfield 58, 0, [11, 0, 0]), (.i2l, 0, []), (.lconst 1, 1, []), (.ldc2_w 122, 32, []), (.invokestatic 124, 0, [38, 109, 0, 3, 5, 5, 5]), (.ifCond .eq 14, 0, [143]), (.aload_n 0, 0, [0]), (.invokevirtual 128, 0, [166, 11, 23, 8, 0, 3]), (.ifCond .eq 7, 0, [143]), (.iconst 1, 1, []), (.goto 4, 0, [144])]
def s157_143 : List E := [(.iconst 0, 0, []), (.nop, 0, [144])]
def s157_144 : List E := [(.istore 5, 0, [5]), (.iload 5, 0, [5]), (.ifCond .eq 13, 0, [161]), (.iload_n 3, 0, [3]), (.aload_n 0, 0, [0]), (.getfield 91, 0, [11, 17, 0]), (.isub, 0, []), (.iconst 3, 3, []), (.if_icmp .le 5, 0, [163]), (.nop, 0, [161])]
def s157_161 : List E := [(.iconst 0, 0, []), (.ireturn, 0, [1])]
def s157_163 : List E := [(.aload_n 0, 0, [0]), (.getfield 91, 0, [11, 17, 0]), (.iload_n 3, 0, [3]), (.if_icmp .ge 12, 0, [180]), (.aload_n 0, 0, [0]), (.invokevirtual 131, 0, [163, 11, 23, 93, 0, 0]), (.ifCond .eq (-12), 0, [163]), (.iconst 0, 0, []), (.ireturn, 0, [1])]
def s157_180 : List E := [(.iconst 1, 1, []), (.ireturn, 0, [1])]
def cd157 : List (Nat × List E) := [(0, s157_0), (11, s157_11), (37, s157_37), (49, s157_49), (73, s157_73), (109, s157_109), (113, s157_113), (117, s157_117), (143, s157_143), (144, s157_144), (161, s157_161), (163, s157_163), (180, s157_180)]
theorem l157_0 : lkc cd157 0 = s157_0 := rfl
theorem l157_11 : lkc cd157 11 = s157_11 := rfl
theorem l157_37 : lkc cd157 37 = s157_37 := rfl
theorem l157_49 : lkc cd157 49 = s157_49 := rfl
theorem l157_73 : lkc cd157 73 = s157_73 := rfl
theorem l157_109 : lkc cd157 109 = s157_109 := rfl
theorem l157_113 : lkc cd157 113 = s157_113 := rfl
theorem l157_117 : lkc cd157 117 = s157_117 := rfl
theorem l157_143 : lkc cd157 143 = s157_143 := rfl
theorem l157_144 : lkc cd157 144 = s157_144 := rfl
theorem l157_161 : lkc cd157 161 = s157_161 := rfl
theorem l157_163 : lkc cd157 163 = s157_163 := rfl
theorem l157_180 : lkc cd157 180 = s157_180 := rfl
theorem k157 : chkM 157 11 true cd157 = true := by decide +kernel
/- Glyph.has(I)Z -/
def s158_0 : List E := [(.iload_n 1, 0, [1]), (.aload_n 0, 0, [0]), (.getfield 88, 0, [11, 18, 0]), (.aload_n 0, 0, [0]), (.getfield 91, 0, [11, 17, 0]), (.isub, 0, []), (.if_icmp .gt 7, 0, [17]), (.iconst 1, 1, []), (.goto 4, 0, [18])]
def s158_17 : List E := [(.iconst 0, 0, []), (.nop, 0, [18])]
def s158_18 : List E := [(.ireturn, 0, [1])]
def cd158 : List (Nat × List E) := [(0, s158_0), (17, s158_17), (18, s158_18)]
theorem l158_0 : lkc cd158 0 = s158_0 := rfl
theorem l158_17 : lkc cd158 17 = s158_17 := rfl
theorem l158_18 : lkc cd158 18 = s158_18 := rfl
theorem k158 : chkM 158 11 true cd158 = true := by decide +kernel
/- Glyph.two()I -/
def s159_0 : List E := [(.aload_n 0, 0, [0]), (.dup, 0, []), (.getfield 91, 0, [11, 17, 0]), (.iconst 2, 2, []), (.iadd, 0, []), (.putfield 91, 0, [11, 17, 0]), (.aload_n 0, 0, [0]), (.getfield 94, 0, [11, 16, 7]), (.aload_n 0, 0, [0]), (.getfield 91, 0, [11, 17, 0]), (.iconst 2, 2, []), (.isub, 0, []), (.invokevirtual 100, 0, [118, 1, 3, 8, 0, 0, 0]), (.ireturn, 0, [])]
def cd159 : List (Nat × List E) := [(0, s159_0)]
theorem l159_0 : lkc cd159 0 = s159_0 := rfl
theorem k159 : chkM 159 11 true cd159 = true := by decide +kernel
/- Glyph.readParts(I)Z -/
def s160_0 : List E := [(.aload_n 0, 0, [0]), (.getfield 91, 0, [11, 17, 0]), (.istore_n 2, 0, [2]), (.iconst 1, 1, []), (.istore_n 3, 0, [3]), (.nop, 0, [7])]
def s160_7 : List E := [(.iload_n 3, 0, [3]), (.ifCond .eq 245, 0, [253]), (.aload_n 0, 0, [0]), (.getfield 66, 0, [11, 3, 0]), (.bipush 16, 16, []), (.if_icmp .eq 11, 0, [28]), (.aload_n 0, 0, [0]), (.iconst 4, 4, []), (.invokevirtual 104, 0, [158, 11, 23, 70, 0, 3, 0]), (.ifCond .ne 5, 0, [30]), (.nop, 0, [28])]
def s160_28 : List E := [(.iconst 0, 0, []), (.ireturn, 0, [1])]
def s160_30 : List E := [(.aload_n 0, 0, [0]), (.invokevirtual 108, 0, [159, 11, 23, 29, 0, 0]), (.istore 4, 0, [4]), (.iload 4, 0, [4]), (.invokestatic 145, 0, [161, 71, 0, 0, 0]), (.istore 5, 0, [5]), (.aload_n 0, 0, [0]), (.getfield 31, 7, [11, 10, 81, 1]), (.aload_n 0, 0, [0]), (.getfield 66, 0, [11, 3, 0]), (.aload_n 0, 0, [0]), (.invokevirtual 108, 0, [159, 11, 23, 29, 0, 0]), (.iastore, 0, []), (.iload 4, 0, [4]), (.invokestatic 148, 0, [162, 71, 0, 3, 0]), (.ifCond .eq 40, 0, [101]), (.aload_n 0, 0, [0]), (.getfield 31, 7, [11, 10, 81, 1]), (.aload_n 0, 0, [0]), (.getfield 66, 0, [11, 3, 0]), (.iaload, 0, []), (.iload_n 1, 0, [1]), (.if_icmp .ge 27, 0, [101]), (.aload_n 0, 0, [0]), (.iload 4, 0, [4]), (.iconst 1, 1, []), (.iand, 0, []), (.ifCond .eq 7, 0, [89]), (.iconst 4, 4, []), (.goto 4, 0, [90])]
def s160_89 : List E := [(.iconst 2, 2, []), (.nop, 0, [90])]
def s160_90 : List E := [(.iconst 2, 2, []), (.iload 5, 0, [5]), (.imul, 0, []), (.iadd, 0, []), (.invokevirtual 104, 0, [158, 11, 23, 70, 0, 3, 0]), (.ifCond .ne 5, 0, [103]), (.nop, 0, [101])]
def s160_101 : List E := [(.iconst 0, 0, []), (.ireturn, 0, [1])]
def s160_103 : List E := [(.iload 4, 0, [4]), (.iconst 1, 1, []), (.iand, 0, []), (.ifCond .eq 7, 0, [114]), (.iconst 1, 1, []), (.goto 4, 0, [115])]
def s160_114 : List E := [(.iconst 0, 0, []), (.nop, 0, [115])]
def s160_115 : List E := [(.istore 6, 0, [6]), (.aload_n 0, 0, [0]), (.getfield 28, 6, [11, 9, 81, 1]), (.aload_n 0, 0, [0]), (.getfield 66, 0, [11, 3, 0]), (.iload 4, 0, [4]), (.iastore, 0, []), (.aload_n 0, 0, [0]), (.getfield 34, 8, [11, 11, 81, 1]), (.aload_n 0, 0, [0]), (.getfield 66, 0, [11, 3, 0]), (.iload 6, 0, [6]), (.ifCond .eq 11, 0, [149]), (.aload_n 0, 0, [0]), (.invokevirtual 108, 0, [159, 11, 23, 29, 0, 0]), (.i2s, 0, []), (.goto 8, 0, [154])]
def s160_149 : List E := [(.aload_n 0, 0, [0]), (.invokevirtual 131, 0, [163, 11, 23, 50, 0, 0]), (.i2b, 0, []), (.nop, 0, [154])]
def s160_154 : List E := [(.iastore, 0, []), (.aload_n 0, 0, [0]), (.getfield 37, 9, [11, 12, 81, 1]), (.aload_n 0, 0, [0]), (.getfield 66, 0, [11, 3, 0]), (.iload 6, 0, [6]), (.ifCond .eq 11, 0, [176]), (.aload_n 0, 0, [0]), (.invokevirtual 108, 0, [159, 11, 23, 29, 0, 0]), (.i2s, 0, []), (.goto 8, 0, [181])]
def s160_176 : List E := [(.aload_n 0, 0, [0]), (.invokevirtual 131, 0, [163, 11, 23, 50, 0, 0]), (.i2b, 0, []), (.nop, 0, [181])]
def s160_181 : List E := [(.iastore, 0, []), (.iconst 0, 0, []), (.istore 7, 0, [7]), (.nop, 0, [185])]
def s160_185 : List E := [(.iload 7, 0, [7]), (.iconst 4, 4, []), (.if_icmp .ge 38, 0, [226]), (.aload_n 0, 0, [0]), (.getfield 40, 10, [11, 13, 81, 1]), (.iconst 4, 4, []), (.aload_n 0, 0, [0]), (.getfield 66, 0, [11, 3, 0]), (.imul, 0, []), (.iload 7, 0, [7]), (.iadd, 0, []), (.iload 7, 0, [7]), (.iload 5, 0, [5]), (.if_icmp .ge 10, 0, [218]), (.aload_n 0, 0, [0]), (.invokevirtual 108, 0, [159, 11, 23, 29, 0, 0]), (.goto 4, 0, [219])]
def s160_218 : List E := [(.iconst 0, 0, []), (.nop, 0, [219])]
def s160_219 : List E := [(.iastore, 0, []), (.iinc 7 1, 1, [7]), (.goto (-38), 0, [185])]
def s160_226 : List E := [(.aload_n 0, 0, [0]), (.dup, 0, []), (.getfield 66, 0, [11, 3, 0]), (.iconst 1, 1, []), (.iadd, 0, []), (.putfield 66, 0, [11, 3, 0]), (.iload 4, 0, [4]), (.bipush 32, 32, []), (.iand, 0, []), (.ifCond .eq 7, 0, [248]), (.iconst 1, 1, []), (.goto 4, 0, [249])]
def s160_248 : List E := [(.iconst 0, 0, []), (.nop, 0, [249])]
def s160_249 : List E := [(.istore_n 3, 0, [3]), (.goto (-243), 0, [7])]
def s160_253 : List E := [(.aload_n 0, 0, [0]), (.getfield 48, 11, [11, 14, 3, 1]), (.invokevirtual 72, 0, [112, 1, 3, 71, 0, 100]), (.aload_n 0, 0, [0]), (.getfield 48, 11, [11, 14, 3, 1]), (.aload_n 0, 0, [0]), (.getfield 94, 0, [11, 16, 7]), (.iload_n 2, 0, [2]), (.aload_n 0, 0, [0]), (.getfield 91, 0, [11, 17, 0]), (.iload_n 2, 0, [2]), (.isub, 0, []), (.invokevirtual 134, 0, [115, 1, 3, 8, 0, 100, 0, 0, 7]), (.iconst 1, 1, []), (.ireturn, 0, [1])]
def cd160 : List (Nat × List E) := [(0, s160_0), (7, s160_7), (28, s160_28), (30, s160_30), (89, s160_89), (90, s160_90), (101, s160_101), (103, s160_103), (114, s160_114), (115, s160_115), (149, s160_149), (154, s160_154), (176, s160_176), (181, s160_181), (185, s160_185), (218, s160_218), (219, s160_219), (226, s160_226), (248, s160_248), (249, s160_249), (253, s160_253)]
theorem l160_0 : lkc cd160 0 = s160_0 := rfl
theorem l160_7 : lkc cd160 7 = s160_7 := rfl
theorem l160_28 : lkc cd160 28 = s160_28 := rfl
theorem l160_30 : lkc cd160 30 = s160_30 := rfl
theorem l160_89 : lkc cd160 89 = s160_89 := rfl
theorem l160_90 : lkc cd160 90 = s160_90 := rfl
theorem l160_101 : lkc cd160 101 = s160_101 := rfl
theorem l160_103 : lkc cd160 103 = s160_103 := rfl
theorem l160_114 : lkc cd160 114 = s160_114 := rfl
theorem l160_115 : lkc cd160 115 = s160_115 := rfl
theorem l160_149 : lkc cd160 149 = s160_149 := rfl
theorem l160_154 : lkc cd160 154 = s160_154 := rfl
theorem l160_176 : lkc cd160 176 = s160_176 := rfl
theorem l160_181 : lkc cd160 181 = s160_181 := rfl
theorem l160_185 : lkc cd160 185 = s160_185 := rfl
theorem l160_218 : lkc cd160 218 = s160_218 := rfl
theorem l160_219 : lkc cd160 219 = s160_219 := rfl
theorem l160_226 : lkc cd160 226 = s160_226 := rfl
theorem l160_248 : lkc cd160 248 = s160_248 := rfl
theorem l160_249 : lkc cd160 249 = s160_249 := rfl
theorem l160_253 : lkc cd160 253 = s160_253 := rfl
theorem k160 : chkM 160 11 true cd160 = true := by decide +kernel
/- Glyph.scalesOf(I)I -/
def s161_0 : List E := [(.iload_n 0, 0, [0]), (.bipush 8, 8, []), (.iand, 0, []), (.ifCond .eq 7, 0, [11]), (.iconst 1, 1, []), (.goto 27, 0, [35])]
def s161_11 : List E := [(.iload_n 0, 0, [0]), (.bipush 64, 64, []), (.iand, 0, []), (.ifCond .eq 7, 0, [22]), (.iconst 2, 2, []), (.goto 16, 0, [35])]
def s161_22 : List E := [(.iload_n 0, 0, [0]), (.sipush 128, 128, []), (.iand, 0, []), (.ifCond .eq 7, 0, [34]), (.iconst 4, 4, []), (.goto 4, 0, [35])]
def s161_34 : List E := [(.iconst 0, 0, []), (.nop, 0, [35])]
def s161_35 : List E := [(.ireturn, 0, [])]
def cd161 : List (Nat × List E) := [(0, s161_0), (11, s161_11), (22, s161_22), (34, s161_34), (35, s161_35)]
theorem l161_0 : lkc cd161 0 = s161_0 := rfl
theorem l161_11 : lkc cd161 11 = s161_11 := rfl
theorem l161_22 : lkc cd161 22 = s161_22 := rfl
theorem l161_34 : lkc cd161 34 = s161_34 := rfl
theorem l161_35 : lkc cd161 35 = s161_35 := rfl
theorem k161 : chkM 161 11 true cd161 = true := by decide +kernel
/- Glyph.isGood(I)Z -/
def s162_0 : List E := [(.iload_n 0, 0, [0]), (.iconst 3, 3, []), (.ishr, 0, []), (.iconst 1, 1, []), (.iand, 0, []), (.iload_n 0, 0, [0]), (.bipush 6, 6, []), (.ishr, 0, []), (.iconst 1, 1, []), (.iand, 0, []), (.iadd, 0, []), (.iload_n 0, 0, [0]), (.bipush 7, 7, []), (.ishr, 0, []), (.iconst 1, 1, []), (.iand, 0, []), (.iadd, 0, []), (.iconst 2, 2, []), (.if_icmp .ge 7, 0, [27]), (.iconst 1, 1, []), (.goto 4, 0, [28])]
def s162_27 : List E := [(.iconst 0, 0, []), (.nop, 0, [28])]
def s162_28 : List E := [(.ireturn, 0, [1])]
def cd162 : List (Nat × List E) := [(0, s162_0), (27, s162_27), (28, s162_28)]
theorem l162_0 : lkc cd162 0 = s162_0 := rfl
theorem l162_27 : lkc cd162 27 = s162_27 := rfl
theorem l162_28 : lkc cd162 28 = s162_28 := rfl
theorem k162 : chkM 162 11 true cd162 = true := by decide +kernel
/- Glyph.octet()I -/
def s163_0 : List E := [(.aload_n 0, 0, [0]), (.getfield 94, 0, [11, 16, 7]), (.aload_n 0, 0, [0]), (.dup, 0, []), (.getfield 91, 0, [11, 17, 0]), (.dup_x1, 0, []), (.iconst 1, 1, []), (.iadd, 0, []), (.putfield 91, 0, [11, 17, 0]), (.invokevirtual 97, 0, [114, 1, 3, 8, 0, 0, 0]), (.ireturn, 0, [])]
def cd163 : List (Nat × List E) := [(0, s163_0)]
theorem l163_0 : lkc cd163 0 = s163_0 := rfl
theorem k163 : chkM 163 11 true cd163 = true := by decide +kernel
/- Glyph.hasCode()Z -/
def s164_0 : List E := [(.iconst 0, 0, []), (.istore_n 1, 0, [1]), (.iconst 0, 0, []), (.istore_n 2, 0, [2]), (.nop, 0, [4])]
def s164_4 : List E := [(.iload_n 2, 0, [2]), (.aload_n 0, 0, [0]), (.getfield 66, 0, [11, 3, 0]), (.if_icmp .ge 37, 0, [46]), (.aload_n 0, 0, [0]), (.getfield 58, 0, [11, 0, 0]), (.ifCond .ge 30, 0, [46]), (.iload_n 1, 0, [1]), (.aload_n 0, 0, [0]), (.getfield 28, 6, [11, 9, 81, 1]), (.iload_n 2, 0, [2]), (.iaload, 0, []), (.sipush 256, 256, []), (.iand, 0, []), (.ifCond .eq 7, 0, [37]), (.iconst 1, 1, []), (.goto 4, 0, [38])]
def s164_37 : List E := [(.iconst 0, 0, []), (.nop, 0, [38])]
def s164_38 : List E := [(.ior, 0, []), (.istore_n 1, 0, [1]), (.iinc 2 1, 1, [2]), (.goto (-39), 0, [4])]
def s164_46 : List E := [(.iload_n 1, 0, [1]), (.ireturn, 0, [1])]
def cd164 : List (Nat × List E) := [(0, s164_0), (4, s164_4), (37, s164_37), (38, s164_38), (46, s164_46)]
theorem l164_0 : lkc cd164 0 = s164_0 := rfl
theorem l164_4 : lkc cd164 4 = s164_4 := rfl
theorem l164_37 : lkc cd164 37 = s164_37 := rfl
theorem l164_38 : lkc cd164 38 = s164_38 := rfl
theorem l164_46 : lkc cd164 46 = s164_46 := rfl
theorem k164 : chkM 164 11 true cd164 = true := by decide +kernel
/- Glyph.readCode()Z -/
def s165_0 : List E := [(.aload_n 0, 0, [0]), (.iconst 2, 2, []), (.invokevirtual 104, 0, [158, 11, 23, 70, 0, 3, 0]), (.ifCond .ne 5, 0, [10]), (.iconst 0, 0, []), (.ireturn, 0, [1])]
def s165_10 : List E := [(.aload_n 0, 0, [0]), (.invokevirtual 108, 0, [159, 11, 23, 29, 0, 0]), (.istore_n 1, 0, [1]), (.iload_n 1, 0, [1]), (.sipush 300, 300, []), (.if_icmp .gt 11, 0, [30]), (.aload_n 0, 0, [0]), (.iload_n 1, 0, [1]), (.invokevirtual 104, 0, [158, 11, 23, 70, 0, 3, 0]), (.ifCond .ne 5, 0, [32]), (.nop, 0, [30])]
def s165_30 : List E := [(.iconst 0, 0, []), (.ireturn, 0, [1])]
def s165_32 : List E := [(.aload_n 0, 0, [0]), (.getfield 52, 13, [11, 15, 3, 1]), (.aload_n 0, 0, [0]), (.getfield 94, 0, [11, 16, 7]), (.aload_n 0, 0, [0]), (.getfield 91, 0, [11, 17, 0]), (.iload_n 1, 0, [1]), (.invokevirtual 134, 0, [115, 1, 3, 8, 0, 100, 0, 0, 7]), (.aload_n 0, 0, [0]), (.dup, 0, []), (.getfield 91, 0, [11, 17, 0]), (.iload_n 1, 0, [1]), (.iadd, 0, []), (.putfield 91, 0, [11, 17, 0]), (.iconst 1, 1, []), (.ireturn, 0, [1])]
def cd165 : List (Nat × List E) := [(0, s165_0), (10, s165_10), (30, s165_30), (32, s165_32)]
theorem l165_0 : lkc cd165 0 = s165_0 := rfl
theorem l165_10 : lkc cd165 10 = s165_10 := rfl
theorem l165_30 : lkc cd165 30 = s165_30 := rfl
theorem l165_32 : lkc cd165 32 = s165_32 := rfl
theorem k165 : chkM 165 11 true cd165 = true := by decide +kernel
/- Glyph.readPoints()Z -/
def s166_0 : List E := [(.iconst (-1), -1, []), (.istore_n 1, 0, [1]), (.iconst 0, 0, []), (.istore_n 2, 0, [2]), (.nop, 0, [4])]
def s166_4 : List E := [(.iload_n 2, 0, [2]), (.aload_n 0, 0, [0]), (.getfield 58, 0, [11, 0, 0]), (.if_icmp .ge 60, 0, [69]), (.aload_n 0, 0, [0]), (.iconst 2, 2, []), (.invokevirtual 104, 0, [158, 11, 23, 91, 0, 3, 0]), (.ifCond .ne 5, 0, [22]), (.iconst 0, 0, []), (.ireturn, 0, [1])]
def s166_22 : List E := [(.aload_n 0, 0, [0]), (.getfield 25, 5, [11, 7, 81, 1]), (.iload_n 2, 0, [2]), (.aload_n 0, 0, [0]), (.invokevirtual 108, 0, [159, 11, 23, 50, 0, 0]), (.iastore, 0, []), (.aload_n 0, 0, [0]), (.getfield 25, 5, [11, 7, 81, 1]), (.iload_n 2, 0, [2]), (.iaload, 0, []), (.iload_n 1, 0, [1]), (.if_icmp .le 15, 0, [54]), (.aload_n 0, 0, [0]), (.getfield 25, 5, [11, 7, 81, 1]), (.iload_n 2, 0, [2]), (.iaload, 0, []), (.sipush 256, 256, []), (.if_icmp .lt 5, 0, [56]), (.nop, 0, [54])]
def s166_54 : List E := [(.iconst 0, 0, []), (.ireturn, 0, [1])]
def s166_56 : List E := [(.aload_n 0, 0, [0]), (.getfield 25, 5, [11, 7, 81, 1]), (.iload_n 2, 0, [2]), (.iaload, 0, []), (.istore_n 1, 0, [1]), (.iinc 2 1, 1, [2]), (.goto (-62), 0, [4])]
def s166_69 : List E := [(.aload_n 0, 0, [0]), (.iload_n 1, 0, [1]), (.iconst 1, 1, []), (.iadd, 0, []), (.putfield 66, 0, [11, 3, 0]), (.aload_n 0, 0, [0]), (.invokevirtual 119, 0, [165, 11, 23, 8, 0, 3]), (.ifCond .eq 10, 0, [90]), (.aload_n 0, 0, [0]), (.invokevirtual 138, 0, [167, 11, 23, 47, 0, 3]), (.ifCond .ne 5, 0, [92]), (.nop, 0, [90])]
def s166_90 : List E := [(.iconst 0, 0, []), (.ireturn, 0, [1])]
def s166_92 : List E := [(.aload_n 0, 0, [0]), (.aload_n 0, 0, [0]), (.getfield 15, 2, [11, 4, 81, 1]), (.iconst 2, 2, []), (.bipush 16, 16, []), (.invokevirtual 141, 0, [168, 11, 23, 23, 0, 3, 0, 0, 46]), (.ifCond .eq 21, 0, [124]), (.aload_n 0, 0, [0]), (.aload_n 0, 0, [0]), (.getfield 18, 3, [11, 5, 81, 1]), (.iconst 4, 4, []), (.bipush 32, 32, []), (.invokevirtual 141, 0, [168, 11, 23, 23, 0, 3, 0, 0, 46]), (.ifCond .eq 7, 0, [124]), (.iconst 1, 1, []), (.goto 4, 0, [125])]
def s166_124 : List E := [(.iconst 0, 0, []), (.nop, 0, [125])]
def s166_125 : List E := [(.ireturn, 0, [1])]
def cd166 : List (Nat × List E) := [(0, s166_0), (4, s166_4), (22, s166_22), (54, s166_54), (56, s166_56), (69, s166_69), (90, s166_90), (92, s166_92), (124, s166_124), (125, s166_125)]
theorem l166_0 : lkc cd166 0 = s166_0 := rfl
theorem l166_4 : lkc cd166 4 = s166_4 := rfl
theorem l166_22 : lkc cd166 22 = s166_22 := rfl
theorem l166_54 : lkc cd166 54 = s166_54 := rfl
theorem l166_56 : lkc cd166 56 = s166_56 := rfl
theorem l166_69 : lkc cd166 69 = s166_69 := rfl
theorem l166_90 : lkc cd166 90 = s166_90 := rfl
theorem l166_92 : lkc cd166 92 = s166_92 := rfl
theorem l166_124 : lkc cd166 124 = s166_124 := rfl
theorem l166_125 : lkc cd166 125 = s166_125 := rfl
theorem k166 : chkM 166 11 true cd166 = true := by decide +kernel
/- Glyph.readMarks()Z -/
def s167_0 : List E := [(.iconst 0, 0, []), (.istore_n 1, 0, [1]), (.nop, 0, [2])]
def s167_2 : List E := [(.iload_n 1, 0, [1]), (.aload_n 0, 0, [0]), (.getfield 66, 0, [11, 3, 0]), (.if_icmp .ge 92, 0, [99]), (.aload_n 0, 0, [0]), (.iconst 1, 1, []), (.invokevirtual 104, 0, [158, 11, 23, 28, 0, 3, 0]), (.ifCond .ne 5, 0, [20]), (.iconst 0, 0, []), (.ireturn, 0, [1])]
def s167_20 : List E := [(.aload_n 0, 0, [0]), (.invokevirtual 131, 0, [163, 11, 23, 8, 0, 0]), (.istore_n 2, 0, [2]), (.iload_n 2, 0, [2]), (.sipush 128, 128, []), (.iand, 0, []), (.ifCond .eq 5, 0, [35]), (.iconst 0, 0, []), (.ireturn, 0, [1])]
def s167_35 : List E := [(.iconst 0, 0, []), (.istore_n 3, 0, [3]), (.iload_n 2, 0, [2]), (.bipush 8, 8, []), (.iand, 0, []), (.ifCond .eq 30, 0, [71]), (.aload_n 0, 0, [0]), (.iconst 1, 1, []), (.invokevirtual 104, 0, [158, 11, 23, 28, 0, 3, 0]), (.ifCond .ne 5, 0, [54]), (.iconst 0, 0, []), (.ireturn, 0, [1])]
def s167_54 : List E := [(.aload_n 0, 0, [0]), (.invokevirtual 131, 0, [163, 11, 23, 8, 0, 0]), (.istore_n 3, 0, [3]), (.iload_n 3, 0, [3]), (.aload_n 0, 0, [0]), (.getfield 66, 0, [11, 3, 0]), (.iload_n 1, 0, [1]), (.isub, 0, []), (.if_icmp .lt 5, 0, [71]), (.iconst 0, 0, []), (.ireturn, 0, [1])]
def s167_71 : List E := [(.iconst 0, 0, []), (.istore 4, 0, [4]), (.nop, 0, [74])]
def s167_74 : List E := [(.iload 4, 0, [4]), (.iload_n 3, 0, [3]), (.if_icmp .gt 19, 0, [96]), (.aload_n 0, 0, [0]), (.getfield 55, 15, [11, 19, 81, 1]), (.iload_n 1, 0, [1]), (.iinc 1 1, 1, [1]), (.iload_n 2, 0, [2]), (.iastore, 0, []), (.iinc 4 1, 1, [4]), (.goto (-19), 0, [74])]
def s167_96 : List E := [(.goto (-94), 0, [2])]
def s167_99 : List E := [(.iconst 0, 0, []), (.istore_n 1, 0, [1]), (.nop, 0, [101])]
def s167_101 : List E := [(.iload_n 1, 0, [1]), (.aload_n 0, 0, [0]), (.getfield 66, 0, [11, 3, 0]), (.if_icmp .ge 31, 0, [137]), (.aload_n 0, 0, [0]), (.getfield 21, 4, [11, 6, 89, 1]), (.iload_n 1, 0, [1]), (.aload_n 0, 0, [0]), (.getfield 55, 15, [11, 19, 81, 1]), (.iload_n 1, 0, [1]), (.iaload, 0, []), (.iconst 1, 1, []), (.iand, 0, []), (.ifCond .eq 7, 0, [129]), (.iconst 1, 1, []), (.goto 4, 0, [130])]
def s167_129 : List E := [(.iconst 0, 0, []), (.nop, 0, [130])]
def s167_130 : List E := [(.bastore, 0, []), (.iinc 1 1, 1, [1]), (.goto (-33), 0, [101])]
def s167_137 : List E := [(.aload_n 0, 0, [0]), (.aload_n 0, 0, [0]), (.getfield 55, 15, [11, 19, 81, 1]), (.iconst 0, 0, []), (.iaload, 0, []), (.bipush 64, 64, []), (.iand, 0, []), (.ifCond .eq 7, 0, [154]), (.iconst 1, 1, []), (.goto 4, 0, [155])]
def s167_154 : List E := [(.iconst 0, 0, []), (.nop, 0, [155])]
def s167_155 : List E := [(.putfield 69, 0, [11, 8, 3]), (.iconst 1, 1, []), (.ireturn, 0, [1])]
def cd167 : List (Nat × List E) := [(0, s167_0), (2, s167_2), (20, s167_20), (35, s167_35), (54, s167_54), (71, s167_71), (74, s167_74), (96, s167_96), (99, s167_99), (101, s167_101), (129, s167_129), (130, s167_130), (137, s167_137), (154, s167_154), (155, s167_155)]
theorem l167_0 : lkc cd167 0 = s167_0 := rfl
theorem l167_2 : lkc cd167 2 = s167_2 := rfl
theorem l167_20 : lkc cd167 20 = s167_20 := rfl
theorem l167_35 : lkc cd167 35 = s167_35 := rfl
theorem l167_54 : lkc cd167 54 = s167_54 := rfl
theorem l167_71 : lkc cd167 71 = s167_71 := rfl
theorem l167_74 : lkc cd167 74 = s167_74 := rfl
theorem l167_96 : lkc cd167 96 = s167_96 := rfl
theorem l167_99 : lkc cd167 99 = s167_99 := rfl
theorem l167_101 : lkc cd167 101 = s167_101 := rfl
theorem l167_129 : lkc cd167 129 = s167_129 := rfl
theorem l167_130 : lkc cd167 130 = s167_130 := rfl
theorem l167_137 : lkc cd167 137 = s167_137 := rfl
theorem l167_154 : lkc cd167 154 = s167_154 := rfl
theorem l167_155 : lkc cd167 155 = s167_155 := rfl
theorem k167 : chkM 167 11 true cd167 = true := by decide +kernel
/- Glyph.readWays([III)Z -/
def s168_0 : List E := [(.iconst 0, 0, []), (.istore 4, 0, [4]), (.iconst 0, 0, []), (.istore 5, 0, [5]), (.nop, 0, [6])]
def s168_6 : List E := [(.iload 5, 0, [5]), (.aload_n 0, 0, [0]), (.getfield 66, 0, [11, 3, 0]), (.if_icmp .ge 118, 0, [130]), (.aload_n 0, 0, [0]), (.getfield 55, 15, [11, 19, 81, 1]), (.iload 5, 0, [5]), (.iaload, 0, []), (.iload_n 3, 0, [3]), (.iand, 0, []), (.ifCond .eq 7, 0, [31]), (.iconst 1, 1, []), (.goto 4, 0, [32])]
def s168_31 : List E := [(.iconst 0, 0, []), (.nop, 0, [32])]
def s168_32 : List E := [(.istore 6, 0, [6]), (.aload_n 0, 0, [0]), (.getfield 55, 15, [11, 19, 81, 1]), (.iload 5, 0, [5]), (.iaload, 0, []), (.iload_n 2, 0, [2]), (.iand, 0, []), (.ifCond .eq 40, 0, [83]), (.aload_n 0, 0, [0]), (.iconst 1, 1, []), (.invokevirtual 104, 0, [158, 11, 23, 49, 0, 3, 0]), (.ifCond .ne 5, 0, [56]), (.iconst 0, 0, []), (.ireturn, 0, [1])]
def s168_56 : List E := [(.aload_n 0, 0, [0]), (.invokevirtual 131, 0, [163, 11, 23, 29, 0, 0]), (.istore 7, 0, [7]), (.iload 4, 0, [4]), (.iload 6, 0, [6]), (.ifCond .eq 8, 0, [74]), (.iload 7, 0, [7]), (.goto 6, 0, [77])]
def s168_74 : List E := [(.iload 7, 0, [7]), (.ineg, 0, []), (.nop, 0, [77])]
def s168_77 : List E := [(.iadd, 0, []), (.istore 4, 0, [4]), (.goto 28, 0, [108])]
def s168_83 : List E := [(.iload 6, 0, [6]), (.ifCond .ne 23, 0, [108]), (.aload_n 0, 0, [0]), (.iconst 2, 2, []), (.invokevirtual 104, 0, [158, 11, 23, 49, 0, 3, 0]), (.ifCond .ne 5, 0, [98]), (.iconst 0, 0, []), (.ireturn, 0, [1])]
def s168_98 : List E := [(.iload 4, 0, [4]), (.aload_n 0, 0, [0]), (.invokevirtual 108, 0, [159, 11, 23, 8, 0, 0]), (.i2s, 0, []), (.iadd, 0, []), (.istore 4, 0, [4]), (.nop, 0, [108])]
def s168_108 : List E := [(.iload 4, 0, [4]), (.iload 4, 0, [4]), (.i2s, 0, []), (.if_icmp .eq 5, 0, [118]), (.iconst 0, 0, []), (.ireturn, 0, [1])]
def s168_118 : List E := [(.aload_n 1, 0, [1]), (.iload 5, 0, [5]), (.iload 4, 0, [4]), (.iastore, 0, []), (.iinc 5 1, 1, [5]), (.goto (-121), 0, [6])]
def s168_130 : List E := [(.iconst 1, 1, []), (.ireturn, 0, [1])]
def cd168 : List (Nat × List E) := [(0, s168_0), (6, s168_6), (31, s168_31), (32, s168_32), (56, s168_56), (74, s168_74), (77, s168_77), (83, s168_83), (98, s168_98), (108, s168_108), (118, s168_118), (130, s168_130)]
theorem l168_0 : lkc cd168 0 = s168_0 := rfl
theorem l168_6 : lkc cd168 6 = s168_6 := rfl
theorem l168_31 : lkc cd168 31 = s168_31 := rfl
theorem l168_32 : lkc cd168 32 = s168_32 := rfl
theorem l168_56 : lkc cd168 56 = s168_56 := rfl
theorem l168_74 : lkc cd168 74 = s168_74 := rfl
theorem l168_77 : lkc cd168 77 = s168_77 := rfl
theorem l168_83 : lkc cd168 83 = s168_83 := rfl
theorem l168_98 : lkc cd168 98 = s168_98 := rfl
theorem l168_108 : lkc cd168 108 = s168_108 := rfl
theorem l168_118 : lkc cd168 118 = s168_118 := rfl
theorem l168_130 : lkc cd168 130 = s168_130 := rfl
theorem k168 : chkM 168 11 true cd168 = true := by decide +kernel
/- Glyph.tighten()V -/
def s169_0 : List E := [(.iconst 0, 0, []), (.istore_n 1, 0, [1]), (.nop, 0, [2])]
def s169_2 : List E := [(.iload_n 1, 0, [1]), (.iconst 4, 4, []), (.if_icmp .ge 20, 0, [24]), (.aload_n 0, 0, [0]), (.getfield 9, 1, [11, 1, 81, 1]), (.iload_n 1, 0, [1]), (.aload_n 0, 0, [0]), (.iload_n 1, 0, [1]), (.invokevirtual 84, 0, [170, 11, 23, 8, 0, 0, 0]), (.iastore, 0, []), (.iinc 1 1, 1, [1]), (.goto (-19), 0, [2])]
def s169_24 : List E := [(.return_, 0, [])]
def cd169 : List (Nat × List E) := [(0, s169_0), (2, s169_2), (24, s169_24)]
theorem l169_0 : lkc cd169 0 = s169_0 := rfl
theorem l169_2 : lkc cd169 2 = s169_2 := rfl
theorem l169_24 : lkc cd169 24 = s169_24 := rfl
theorem k169 : chkM 169 11 true cd169 = true := by decide +kernel
/- Glyph.edge(I)I -/
def s170_0 : List E := [(.iload_n 1, 0, [1]), (.iconst 2, 2, []), (.irem, 0, []), (.ifCond .ne 10, 0, [13]), (.aload_n 0, 0, [0]), (.getfield 15, 2, [11, 4, 81, 1]), (.goto 7, 0, [17])]
def s170_13 : List E := [(.aload_n 0, 0, [0]), (.getfield 18, 3, [11, 5, 81, 1]), (.nop, 0, [17])]
def s170_17 : List E := [(.astore_n 2, 0, [2]), (.aload_n 2, 0, [2]), (.iconst 0, 0, []), (.iaload, 0, []), (.istore_n 3, 0, [3]), (.iconst 1, 1, []), (.istore 4, 0, [4]), (.nop, 0, [25])]
def s170_25 : List E := [(.iload 4, 0, [4]), (.aload_n 0, 0, [0]), (.getfield 66, 0, [11, 3, 0]), (.if_icmp .ge 34, 0, [65]), (.iload_n 1, 0, [1]), (.iconst 2, 2, []), (.if_icmp .ge 14, 0, [50]), (.iload_n 3, 0, [3]), (.aload_n 2, 0, [2]), (.iload 4, 0, [4]), (.iaload, 0, []), (.invokestatic 75, 0, [0, 8, 0, 0, 0, 0]), (.goto 11, 0, [58])]
def s170_50 : List E := [(.iload_n 3, 0, [3]), (.aload_n 2, 0, [2]), (.iload 4, 0, [4]), (.iaload, 0, []), (.invokestatic 81, 0, [1, 8, 0, 0, 0, 0]), (.nop, 0, [58])]
def s170_58 : List E := [(.istore_n 3, 0, [3]), (.iinc 4 1, 1, [4]), (.goto (-37), 0, [25])]
def s170_65 : List E := [(.iload_n 3, 0, [3]), (.ireturn, 0, [])]
def cd170 : List (Nat × List E) := [(0, s170_0), (13, s170_13), (17, s170_17), (25, s170_25), (50, s170_50), (58, s170_58), (65, s170_65)]
theorem l170_0 : lkc cd170 0 = s170_0 := rfl
theorem l170_13 : lkc cd170 13 = s170_13 := rfl
theorem l170_17 : lkc cd170 17 = s170_17 := rfl
theorem l170_25 : lkc cd170 25 = s170_25 := rfl
theorem l170_50 : lkc cd170 50 = s170_50 := rfl
theorem l170_58 : lkc cd170 58 = s170_58 := rfl
theorem l170_65 : lkc cd170 65 = s170_65 := rfl
theorem k170 : chkM 170 11 true cd170 = true := by decide +kernel
/- Glyph.lay(LFontHouse$Bytes;)V -/
def s171_0 : List E := [(.aload_n 0, 0, [0]), (.getfield 58, 0, [11, 0, 0]), (.ifCond .ne 4, 0, [8]), (.return_, 0, [])]
def s171_8 : List E := [(.aload_n 1, 0, [1]), (.getfield 164, 0, [1, 1, 0]), (.istore_n 2, 0, [2]), (.aload_n 1, 0, [1]), (.aload_n 0, 0, [0]), (.getfield 58, 0, [11, 0, 0]), (.invokevirtual 161, 0, [121, 1, 3, 70, 0, 100, 0]), (.iconst 0, 0, []), (.istore_n 3, 0, [3]), (.nop, 0, [23])]
def s171_23 : List E := [(.iload_n 3, 0, [3]), (.iconst 4, 4, []), (.if_icmp .ge 19, 0, [44]), (.aload_n 1, 0, [1]), (.aload_n 0, 0, [0]), (.getfield 9, 1, [11, 1, 81, 1]), (.iload_n 3, 0, [3]), (.iaload, 0, []), (.invokevirtual 161, 0, [121, 1, 3, 70, 0, 100, 0]), (.iinc 3 1, 1, [3]), (.goto (-18), 0, [23])]
def s171_44 : List E := [(.aload_n 0, 0, [0]), (.getfield 58, 0, [11, 0, 0]), (.ifCond .ge 34, 0, [82]), (.aload_n 1, 0, [1]), (.aload_n 0, 0, [0]), (.getfield 48, 11, [11, 14, 3, 1]), (.iconst 0, 0, []), (.aload_n 0, 0, [0]), (.getfield 48, 11, [11, 14, 3, 1]), (.getfield 164, 0, [1, 1, 0]), (.invokevirtual 134, 0, [115, 1, 3, 29, 0, 100, 0, 0, 7]), (.aload_n 0, 0, [0]), (.invokevirtual 115, 0, [164, 11, 23, 90, 0, 3]), (.ifCond .eq 208, 0, [279]), (.aload_n 0, 0, [0]), (.aload_n 1, 0, [1]), (.invokevirtual 167, 0, [172, 11, 23, 8, 0, 100, 7]), (.goto 200, 0, [279])]
def s171_82 : List E := [(.iconst 0, 0, []), (.istore_n 3, 0, [3]), (.nop, 0, [84])]
def s171_84 : List E := [(.iload_n 3, 0, [3]), (.aload_n 0, 0, [0]), (.getfield 58, 0, [11, 0, 0]), (.if_icmp .ge 19, 0, [108]), (.aload_n 1, 0, [1]), (.aload_n 0, 0, [0]), (.getfield 25, 5, [11, 7, 81, 1]), (.iload_n 3, 0, [3]), (.iaload, 0, []), (.invokevirtual 161, 0, [121, 1, 3, 70, 0, 100, 0]), (.iinc 3 1, 1, [3]), (.goto (-21), 0, [84])]
def s171_108 : List E := [(.aload_n 0, 0, [0]), (.aload_n 1, 0, [1]), (.invokevirtual 167, 0, [172, 11, 23, 8, 0, 100, 7]), (.iconst 0, 0, []), (.istore_n 3, 0, [3]), (.nop, 0, [115])]
def s171_115 : List E := [(.iload_n 3, 0, [3]), (.aload_n 0, 0, [0]), (.getfield 66, 0, [11, 3, 0]), (.if_icmp .ge 38, 0, [158]), (.aload_n 0, 0, [0]), (.getfield 55, 15, [11, 19, 81, 1]), (.iload_n 3, 0, [3]), (.aload_n 0, 0, [0]), (.iload_n 3, 0, [3]), (.aload_n 0, 0, [0]), (.aload_n 0, 0, [0]), (.getfield 15, 2, [11, 4, 81, 1]), (.iload_n 3, 0, [3]), (.invokevirtual 154, 0, [173, 11, 23, 90, 0, 0, 0, 46]), (.aload_n 0, 0, [0]), (.aload_n 0, 0, [0]), (.getfield 18, 3, [11, 5, 81, 1]), (.iload_n 3, 0, [3]), (.invokevirtual 154, 0, [173, 11, 23, 90, 0, 0, 0, 46]), (.invokevirtual 171, 0, [174, 11, 23, 68, 0, 0, 0, 0, 0]), (.iastore, 0, []), (.iinc 3 1, 1, [3]), (.goto (-40), 0, [115])]
def s171_158 : List E := [(.iconst 0, 0, []), (.istore_n 3, 0, [3]), (.nop, 0, [160])]
def s171_160 : List E := [(.iload_n 3, 0, [3]), (.aload_n 0, 0, [0]), (.getfield 66, 0, [11, 3, 0]), (.if_icmp .ge 96, 0, [261]), (.iconst 0, 0, []), (.istore 4, 0, [4]), (.nop, 0, [171])]
def s171_171 : List E := [(.iload_n 3, 0, [3]), (.iload 4, 0, [4]), (.iadd, 0, []), (.iconst 1, 1, []), (.iadd, 0, []), (.aload_n 0, 0, [0]), (.getfield 66, 0, [11, 3, 0]), (.if_icmp .ge 37, 0, [218]), (.iload 4, 0, [4]), (.sipush 255, 255, []), (.if_icmp .ge 29, 0, [218]), (.aload_n 0, 0, [0]), (.getfield 55, 15, [11, 19, 81, 1]), (.iload_n 3, 0, [3]), (.iload 4, 0, [4]), (.iadd, 0, []), (.iconst 1, 1, []), (.iadd, 0, []), (.iaload, 0, []), (.aload_n 0, 0, [0]), (.getfield 55, 15, [11, 19, 81, 1]), (.iload_n 3, 0, [3]), (.iaload, 0, []), (.if_icmp .ne 9, 0, [218]), (.iinc 4 1, 1, [4]), (.goto (-44), 0, [171])]
def s171_218 : List E := [(.aload_n 1, 0, [1]), (.aload_n 0, 0, [0]), (.getfield 55, 15, [11, 19, 81, 1]), (.iload_n 3, 0, [3]), (.iaload, 0, []), (.iload 4, 0, [4]), (.ifCond .le 8, 0, [235]), (.bipush 8, 8, []), (.goto 4, 0, [236])]
def s171_235 : List E := [(.iconst 0, 0, []), (.nop, 0, [236])]
def s171_236 : List E := [(.ior, 0, []), (.invokevirtual 158, 0, [113, 1, 3, 91, 0, 100, 0]), (.iload 4, 0, [4]), (.ifCond .le 9, 0, [251]), (.aload_n 1, 0, [1]), (.iload 4, 0, [4]), (.invokevirtual 158, 0, [113, 1, 3, 91, 0, 100, 0]), (.nop, 0, [251])]
def s171_251 : List E := [(.iload_n 3, 0, [3]), (.iload 4, 0, [4]), (.iconst 1, 1, []), (.iadd, 0, []), (.iadd, 0, []), (.istore_n 3, 0, [3]), (.goto (-98), 0, [160])]
def s171_261 : List E := [(.aload_n 0, 0, [0]), (.aload_n 1, 0, [1]), (.aload_n 0, 0, [0]), (.getfield 15, 2, [11, 4, 81, 1]), (.invokevirtual 175, 0, [175, 11, 23, 46, 0, 100, 46, 7]), (.aload_n 0, 0, [0]), (.aload_n 1, 0, [1]), (.aload_n 0, 0, [0]), (.getfield 18, 3, [11, 5, 81, 1]), (.invokevirtual 175, 0, [175, 11, 23, 46, 0, 100, 46, 7]), (.nop, 0, [279])]
def s171_279 : List E := [(.aload_n 1, 0, [1]), (.getfield 164, 0, [1, 1, 0]), (.iload_n 2, 0, [2]), (.isub, 0, []), (.iconst 4, 4, []), (.irem, 0, []), (.istore_n 3, 0, [3]), (.nop, 0, [288])]
def s171_288 : List E := [(.iload_n 3, 0, [3]), (.ifCond .le 19, 0, [308]), (.iload_n 3, 0, [3]), (.iconst 4, 4, []), (.if_icmp .ge 14, 0, [308]), (.aload_n 1, 0, [1]), (.iconst 0, 0, []), (.invokevirtual 158, 0, [113, 1, 3, 91, 0, 100, 0]), (.iinc 3 1, 1, [3]), (.goto (-17), 0, [288])]
def s171_308 : List E := [(.return_, 0, [])]
def cd171 : List (Nat × List E) := [(0, s171_0), (8, s171_8), (23, s171_23), (44, s171_44), (82, s171_82), (84, s171_84), (108, s171_108), (115, s171_115), (158, s171_158), (160, s171_160), (171, s171_171), (218, s171_218), (235, s171_235), (236, s171_236), (251, s171_251), (261, s171_261), (279, s171_279), (288, s171_288), (308, s171_308)]
theorem l171_0 : lkc cd171 0 = s171_0 := rfl
theorem l171_8 : lkc cd171 8 = s171_8 := rfl
theorem l171_23 : lkc cd171 23 = s171_23 := rfl
theorem l171_44 : lkc cd171 44 = s171_44 := rfl
theorem l171_82 : lkc cd171 82 = s171_82 := rfl
theorem l171_84 : lkc cd171 84 = s171_84 := rfl
theorem l171_108 : lkc cd171 108 = s171_108 := rfl
theorem l171_115 : lkc cd171 115 = s171_115 := rfl
theorem l171_158 : lkc cd171 158 = s171_158 := rfl
theorem l171_160 : lkc cd171 160 = s171_160 := rfl
theorem l171_171 : lkc cd171 171 = s171_171 := rfl
theorem l171_218 : lkc cd171 218 = s171_218 := rfl
theorem l171_235 : lkc cd171 235 = s171_235 := rfl
theorem l171_236 : lkc cd171 236 = s171_236 := rfl
theorem l171_251 : lkc cd171 251 = s171_251 := rfl
theorem l171_261 : lkc cd171 261 = s171_261 := rfl
theorem l171_279 : lkc cd171 279 = s171_279 := rfl
theorem l171_288 : lkc cd171 288 = s171_288 := rfl
theorem l171_308 : lkc cd171 308 = s171_308 := rfl
theorem k171 : chkM 171 11 true cd171 = true := by decide +kernel
/- Glyph.layCode(LFontHouse$Bytes;)V -/
def s172_0 : List E := [(.aload_n 1, 0, [1]), (.aload_n 0, 0, [0]), (.getfield 52, 13, [11, 15, 3, 1]), (.getfield 164, 0, [1, 1, 0]), (.invokevirtual 161, 0, [121, 1, 3, 49, 0, 100, 0]), (.aload_n 1, 0, [1]), (.aload_n 0, 0, [0]), (.getfield 52, 13, [11, 15, 3, 1]), (.iconst 0, 0, []), (.aload_n 0, 0, [0]), (.getfield 52, 13, [11, 15, 3, 1]), (.getfield 164, 0, [1, 1, 0]), (.invokevirtual 134, 0, [115, 1, 3, 8, 0, 100, 0, 0, 7]), (.return_, 0, [])]
def cd172 : List (Nat × List E) := [(0, s172_0)]
theorem l172_0 : lkc cd172 0 = s172_0 := rfl
theorem k172 : chkM 172 11 true cd172 = true := by decide +kernel
/- Glyph.step([II)I -/
def s173_0 : List E := [(.aload_n 1, 0, [1]), (.iload_n 2, 0, [2]), (.iaload, 0, []), (.iload_n 2, 0, [2]), (.ifCond .ne 7, 0, [11]), (.iconst 0, 0, []), (.goto 8, 0, [16])]
def s173_11 : List E := [(.aload_n 1, 0, [1]), (.iload_n 2, 0, [2]), (.iconst 1, 1, []), (.isub, 0, []), (.iaload, 0, []), (.nop, 0, [16])]
def s173_16 : List E := [(.isub, 0, []), (.ireturn, 0, [])]
def cd173 : List (Nat × List E) := [(0, s173_0), (11, s173_11), (16, s173_16)]
theorem l173_0 : lkc cd173 0 = s173_0 := rfl
theorem l173_11 : lkc cd173 11 = s173_11 := rfl
theorem l173_16 : lkc cd173 16 = s173_16 := rfl
theorem k173 : chkM 173 11 true cd173 = true := by decide +kernel
/- Glyph.markOf(III)I -/
def s174_0 : List E := [(.aload_n 0, 0, [0]), (.getfield 21, 4, [11, 6, 89, 1]), (.iload_n 1, 0, [1]), (.baload, 0, [44]), (.ifCond .eq 7, 0, [13]), (.iconst 1, 1, []), (.goto 4, 0, [14])]
def s174_13 : List E := [(.iconst 0, 0, []), (.nop, 0, [14])]
def s174_14 : List E := [(.iload_n 1, 0, [1]), (.ifCond .ne 15, 0, [30]), (.aload_n 0, 0, [0]), (.getfield 69, 0, [11, 8, 3]), (.ifCond .eq 8, 0, [30]), (.bipush 64, 64, []), (.goto 4, 0, [31])]
def s174_30 : List E := [(.iconst 0, 0, []), (.nop, 0, [31])]
def s174_31 : List E := [(.ior, 0, []), (.istore 4, 0, [4]), (.iload 4, 0, [4]), (.iload_n 2, 0, [2]), (.ifCond .ne 8, 0, [45]), (.bipush 16, 16, []), (.goto 29, 0, [71])]
def s174_45 : List E := [(.iload_n 2, 0, [2]), (.invokestatic 151, 0, [4, 8, 0, 0, 0]), (.sipush 256, 256, []), (.if_icmp .ge 18, 0, [70]), (.iconst 2, 2, []), (.iload_n 2, 0, [2]), (.ifCond .le 8, 0, [65]), (.bipush 16, 16, []), (.goto 4, 0, [66])]
def s174_65 : List E := [(.iconst 0, 0, []), (.nop, 0, [66])]
def s174_66 : List E := [(.ior, 0, []), (.goto 4, 0, [71])]
def s174_70 : List E := [(.iconst 0, 0, []), (.nop, 0, [71])]
def s174_71 : List E := [(.ior, 0, []), (.istore 4, 0, [4]), (.iload 4, 0, [4]), (.iload_n 3, 0, [3]), (.ifCond .ne 8, 0, [85]), (.bipush 32, 32, []), (.goto 29, 0, [111])]
def s174_85 : List E := [(.iload_n 3, 0, [3]), (.invokestatic 151, 0, [4, 8, 0, 0, 0]), (.sipush 256, 256, []), (.if_icmp .ge 18, 0, [110]), (.iconst 4, 4, []), (.iload_n 3, 0, [3]), (.ifCond .le 8, 0, [105]), (.bipush 32, 32, []), (.goto 4, 0, [106])]
def s174_105 : List E := [(.iconst 0, 0, []), (.nop, 0, [106])]
def s174_106 : List E := [(.ior, 0, []), (.goto 4, 0, [111])]
def s174_110 : List E := [(.iconst 0, 0, []), (.nop, 0, [111])]
def s174_111 : List E := [(.ior, 0, []), (.ireturn, 0, [])]
def cd174 : List (Nat × List E) := [(0, s174_0), (13, s174_13), (14, s174_14), (30, s174_30), (31, s174_31), (45, s174_45), (65, s174_65), (66, s174_66), (70, s174_70), (71, s174_71), (85, s174_85), (105, s174_105), (106, s174_106), (110, s174_110), (111, s174_111)]
theorem l174_0 : lkc cd174 0 = s174_0 := rfl
theorem l174_13 : lkc cd174 13 = s174_13 := rfl
theorem l174_14 : lkc cd174 14 = s174_14 := rfl
theorem l174_30 : lkc cd174 30 = s174_30 := rfl
theorem l174_31 : lkc cd174 31 = s174_31 := rfl
theorem l174_45 : lkc cd174 45 = s174_45 := rfl
theorem l174_65 : lkc cd174 65 = s174_65 := rfl
theorem l174_66 : lkc cd174 66 = s174_66 := rfl
theorem l174_70 : lkc cd174 70 = s174_70 := rfl
theorem l174_71 : lkc cd174 71 = s174_71 := rfl
theorem l174_85 : lkc cd174 85 = s174_85 := rfl
theorem l174_105 : lkc cd174 105 = s174_105 := rfl
theorem l174_106 : lkc cd174 106 = s174_106 := rfl
theorem l174_110 : lkc cd174 110 = s174_110 := rfl
theorem l174_111 : lkc cd174 111 = s174_111 := rfl
theorem k174 : chkM 174 11 true cd174 = true := by decide +kernel
/- Glyph.layWays(LFontHouse$Bytes;[I)V -/
def s175_0 : List E := [(.iconst 0, 0, []), (.istore_n 3, 0, [3]), (.nop, 0, [2])]
def s175_2 : List E := [(.iload_n 3, 0, [3]), (.aload_n 0, 0, [0]), (.getfield 66, 0, [11, 3, 0]), (.if_icmp .ge 54, 0, [61]), (.aload_n 0, 0, [0]), (.aload_n 2, 0, [2]), (.iload_n 3, 0, [3]), (.invokevirtual 154, 0, [173, 11, 23, 28, 0, 0, 0, 46]), (.istore 4, 0, [4]), (.iload 4, 0, [4]), (.ifCond .ne 6, 0, [26]), (.goto 32, 0, [55])]
def s175_26 : List E := [(.iload 4, 0, [4]), (.invokestatic 151, 0, [4, 30, 0, 0, 0]), (.sipush 256, 256, []), (.if_icmp .ge 15, 0, [49]), (.aload_n 1, 0, [1]), (.iload 4, 0, [4]), (.invokestatic 151, 0, [4, 30, 0, 0, 0]), (.invokevirtual 158, 0, [113, 1, 3, 29, 0, 100, 0]), (.goto 9, 0, [55])]
def s175_49 : List E := [(.aload_n 1, 0, [1]), (.iload 4, 0, [4]), (.invokevirtual 161, 0, [121, 1, 3, 8, 0, 100, 0]), (.nop, 0, [55])]
def s175_55 : List E := [(.iinc 3 1, 1, [3]), (.goto (-56), 0, [2])]
def s175_61 : List E := [(.return_, 0, [])]
def cd175 : List (Nat × List E) := [(0, s175_0), (2, s175_2), (26, s175_26), (49, s175_49), (55, s175_55), (61, s175_61)]
theorem l175_0 : lkc cd175 0 = s175_0 := rfl
theorem l175_2 : lkc cd175 2 = s175_2 := rfl
theorem l175_26 : lkc cd175 26 = s175_26 := rfl
theorem l175_49 : lkc cd175 49 = s175_49 := rfl
theorem l175_55 : lkc cd175 55 = s175_55 := rfl
theorem l175_61 : lkc cd175 61 = s175_61 := rfl
theorem k175 : chkM 175 11 true cd175 = true := by decide +kernel
