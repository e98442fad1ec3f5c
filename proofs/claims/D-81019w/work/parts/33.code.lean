set_option maxRecDepth 100000
/- Opener.number(I)I -/
def s493_0 : List E := [(.aload_n 0, 0, [0]), (.getfield 96, 0, [4, 3, 0]), (.iload_n 1, 0, [1]), (.iadd, 0, []), (.aload_n 0, 0, [0]), (.getfield 101, 0, [4, 1, 0]), (.if_icmp .le 9, 0, [19]), (.aload_n 0, 0, [0]), (.iconst 1, 1, []), (.invokevirtual 104, 0, [494, 4, 9, 8, 0, 23, 0]), (.athrow, 0, [])]
def s493_19 : List E := [(.iconst 0, 0, []), (.istore_n 2, 0, [2]), (.iconst 0, 0, []), (.istore_n 3, 0, [3]), (.nop, 0, [23])]
def s493_23 : List E := [(.iload_n 3, 0, [3]), (.iload_n 1, 0, [1]), (.if_icmp .ge 47, 0, [72]), (.iload_n 2, 0, [2]), (.aload_n 0, 0, [0]), (.getfield 108, 0, [4, 0, 7]), (.aload_n 0, 0, [0]), (.getfield 96, 0, [4, 3, 0]), (.iconst 3, 3, []), (.ishr, 0, []), (.invokevirtual 111, 0, [114, 1, 3, 92, 0, 0, 0]), (.aload_n 0, 0, [0]), (.getfield 96, 0, [4, 3, 0]), (.bipush 7, 7, []), (.iand, 0, []), (.ishr, 0, []), (.iconst 1, 1, []), (.iand, 0, []), (.iload_n 3, 0, [3]), (.ishl, 0, []), (.ior, 0, []), (.istore_n 2, 0, [2]), (.aload_n 0, 0, [0]), (.dup, 0, []), (.getfield 96, 0, [4, 3, 0]), (.iconst 1, 1, []), (.iadd, 0, []), (.putfield 96, 0, [4, 3, 0]), (.iinc 3 1, 1, [3]), (.goto (-46), 0, [23])]
def s493_72 : List E := [(.iload_n 2, 0, [2]), (.ireturn, 0, [])]
def cd493 : List (Nat × List E) := [(0, s493_0), (19, s493_19), (23, s493_23), (72, s493_72)]
theorem l493_0 : lkc cd493 0 = s493_0 := rfl
theorem l493_19 : lkc cd493 19 = s493_19 := rfl
theorem l493_23 : lkc cd493 23 = s493_23 := rfl
theorem l493_72 : lkc cd493 72 = s493_72 := rfl
theorem k493 : chkM 493 4 true cd493 = true := by decide +kernel
/- Opener.fault(I)LFontHouse$Fault; -/
def s494_0 : List E := [(.new 94, 0, [17, 35, 8]), (.dup, 0, []), (.iload_n 1, 0, [1]), (.aload_n 0, 0, [0]), (.getfield 96, 0, [4, 3, 0]), (.invokespecial 100, 0, [470, 17, 35, 8, 0, 100, 0, 0]), (.areturn, 0, [17, 34])]
def cd494 : List (Nat × List E) := [(0, s494_0)]
theorem l494_0 : lkc cd494 0 = s494_0 := rfl
theorem k494 : chkM 494 4 true cd494 = true := by decide +kernel
/- Opener.block()Z -/
def s495_0 : List E := [(.aload_n 0, 0, [0]), (.dup, 0, []), (.getfield 124, 0, [4, 25, 0]), (.iconst 1, 1, []), (.iadd, 0, []), (.putfield 124, 0, [4, 25, 0]), (.aload_n 0, 0, [0]), (.iconst 1, 1, []), (.invokevirtual 115, 0, [493, 4, 9, 181, 0, 0, 0]), (.iconst 1, 1, []), (.if_icmp .ne 7, 0, [23]), (.iconst 1, 1, []), (.goto 4, 0, [24])]
def s495_23 : List E := [(.iconst 0, 0, []), (.nop, 0, [24])]
def s495_24 : List E := [(.istore_n 1, 0, [1]), (.iload_n 1, 0, [1]), (.ifCond .eq 14, 0, [40]), (.aload_n 0, 0, [0]), (.iconst 1, 1, []), (.invokevirtual 115, 0, [493, 4, 9, 181, 0, 0, 0]), (.iconst 1, 1, []), (.if_icmp .ne 5, 0, [40]), (.iconst 0, 0, []), (.ireturn, 0, [1])]
def s495_40 : List E := [(.aload_n 0, 0, [0]), (.iconst 2, 2, []), (.invokevirtual 115, 0, [493, 4, 9, 181, 0, 0, 0]), (.istore_n 2, 0, [2]), (.iload_n 2, 0, [2]), (.iconst 3, 3, []), (.if_icmp .ne 17, 0, [65]), (.aload_n 0, 0, [0]), (.invokevirtual 160, 0, [496, 4, 9, 138, 0, 100]), (.iload_n 1, 0, [1]), (.ifCond .ne 7, 0, [63]), (.iconst 1, 1, []), (.goto 4, 0, [64])]
def s495_63 : List E := [(.iconst 0, 0, []), (.nop, 0, [64])]
def s495_64 : List E := [(.ireturn, 0, [1])]
def s495_65 : List E := [(.aload_n 0, 0, [0]), (.bipush 16, 16, []), (.iconst 4, 4, []), (.iload_n 2, 0, [2]), (.imul, 0, []), (.iadd, 0, []), (.invokevirtual 115, 0, [493, 4, 9, 181, 0, 0, 0]), (.istore_n 3, 0, [3]), (.iload_n 2, 0, [2]), (.ifCond .le 20, 0, [97]), (.iload_n 3, 0, [3]), (.bipush 12, 12, []), (.iconst 4, 4, []), (.iload_n 2, 0, [2]), (.imul, 0, []), (.iadd, 0, []), (.iushr, 0, []), (.ifCond .ne 9, 0, [97]), (.aload_n 0, 0, [0]), (.iconst 3, 3, []), (.invokevirtual 104, 0, [494, 4, 9, 204, 0, 23, 0]), (.athrow, 0, [])]
def s495_97 : List E := [(.iload_n 3, 0, [3]), (.iconst 1, 1, []), (.iadd, 0, []), (.istore 4, 0, [4]), (.iload 4, 0, [4]), (.sipush 16000, 16000, []), (.aload_n 0, 0, [0]), (.getfield 14, 1, [4, 2, 3, 1]), (.getfield 118, 0, [1, 1, 0]), (.isub, 0, []), (.if_icmp .le 10, 0, [125]), (.aload_n 0, 0, [0]), (.bipush 10, 10, []), (.invokevirtual 104, 0, [494, 4, 9, 204, 0, 23, 0]), (.athrow, 0, [])]
def s495_125 : List E := [(.iload_n 1, 0, [1]), (.ifCond .ne 58, 0, [184]), (.aload_n 0, 0, [0]), (.iconst 1, 1, []), (.invokevirtual 115, 0, [493, 4, 9, 181, 0, 0, 0]), (.iconst 1, 1, []), (.if_icmp .ne 49, 0, [184]), (.aload_n 0, 0, [0]), (.invokevirtual 154, 0, [497, 4, 9, 161, 0, 100]), (.aload_n 0, 0, [0]), (.iload 4, 0, [4]), (.invokevirtual 157, 0, [498, 4, 9, 183, 0, 100, 0]), (.aload_n 0, 0, [0]), (.getfield 14, 1, [4, 2, 3, 1]), (.aload_n 0, 0, [0]), (.getfield 108, 0, [4, 0, 7]), (.aload_n 0, 0, [0]), (.getfield 96, 0, [4, 3, 0]), (.iconst 3, 3, []), (.ishr, 0, []), (.iload 4, 0, [4]), (.invokevirtual 163, 0, [115, 1, 3, 226, 0, 100, 0, 0, 7]), (.aload_n 0, 0, [0]), (.dup, 0, []), (.getfield 96, 0, [4, 3, 0]), (.bipush 8, 8, []), (.iload 4, 0, [4]), (.imul, 0, []), (.iadd, 0, []), (.putfield 96, 0, [4, 3, 0]), (.goto 9, 0, [190])]
def s495_184 : List E := [(.aload_n 0, 0, [0]), (.iload 4, 0, [4]), (.invokevirtual 167, 0, [499, 4, 9, 8, 0, 100, 0]), (.nop, 0, [190])]
def s495_190 : List E := [(.iload_n 1, 0, [1]), (.ifCond .ne 7, 0, [198]), (.iconst 1, 1, []), (.goto 4, 0, [199])]
def s495_198 : List E := [(.iconst 0, 0, []), (.nop, 0, [199])]
def s495_199 : List E := [(.ireturn, 0, [1])]
def cd495 : List (Nat × List E) := [(0, s495_0), (23, s495_23), (24, s495_24), (40, s495_40), (63, s495_63), (64, s495_64), (65, s495_65), (97, s495_97), (125, s495_125), (184, s495_184), (190, s495_190), (198, s495_198), (199, s495_199)]
theorem l495_0 : lkc cd495 0 = s495_0 := rfl
theorem l495_23 : lkc cd495 23 = s495_23 := rfl
theorem l495_24 : lkc cd495 24 = s495_24 := rfl
theorem l495_40 : lkc cd495 40 = s495_40 := rfl
theorem l495_63 : lkc cd495 63 = s495_63 := rfl
theorem l495_64 : lkc cd495 64 = s495_64 := rfl
theorem l495_65 : lkc cd495 65 = s495_65 := rfl
theorem l495_97 : lkc cd495 97 = s495_97 := rfl
theorem l495_125 : lkc cd495 125 = s495_125 := rfl
theorem l495_184 : lkc cd495 184 = s495_184 := rfl
theorem l495_190 : lkc cd495 190 = s495_190 := rfl
theorem l495_198 : lkc cd495 198 = s495_198 := rfl
theorem l495_199 : lkc cd495 199 = s495_199 := rfl
theorem k495 : chkM 495 4 true cd495 = true := by decide +kernel
/- Opener.passOver()V -/
def s496_0 : List E := [(.aload_n 0, 0, [0]), (.iconst 1, 1, []), (.invokevirtual 115, 0, [493, 4, 9, 28, 0, 0, 0]), (.iconst 1, 1, []), (.if_icmp .ne 9, 0, [15]), (.aload_n 0, 0, [0]), (.iconst 4, 4, []), (.invokevirtual 104, 0, [494, 4, 9, 51, 0, 23, 0]), (.athrow, 0, [])]
def s496_15 : List E := [(.aload_n 0, 0, [0]), (.iconst 2, 2, []), (.invokevirtual 115, 0, [493, 4, 9, 28, 0, 0, 0]), (.istore_n 1, 0, [1]), (.aload_n 0, 0, [0]), (.bipush 8, 8, []), (.iload_n 1, 0, [1]), (.imul, 0, []), (.invokevirtual 115, 0, [493, 4, 9, 28, 0, 0, 0]), (.istore_n 2, 0, [2]), (.iload_n 1, 0, [1]), (.iconst 1, 1, []), (.if_icmp .le 20, 0, [52]), (.iload_n 2, 0, [2]), (.bipush 8, 8, []), (.iload_n 1, 0, [1]), (.iconst 1, 1, []), (.isub, 0, []), (.imul, 0, []), (.iushr, 0, []), (.ifCond .ne 9, 0, [52]), (.aload_n 0, 0, [0]), (.iconst 3, 3, []), (.invokevirtual 104, 0, [494, 4, 9, 51, 0, 23, 0]), (.athrow, 0, [])]
def s496_52 : List E := [(.aload_n 0, 0, [0]), (.invokevirtual 154, 0, [497, 4, 9, 8, 0, 100]), (.iload_n 1, 0, [1]), (.ifCond .ne 7, 0, [64]), (.iconst 0, 0, []), (.goto 6, 0, [67])]
def s496_64 : List E := [(.iload_n 2, 0, [2]), (.iconst 1, 1, []), (.iadd, 0, []), (.nop, 0, [67])]
def s496_67 : List E := [(.istore_n 3, 0, [3]), (.aload_n 0, 0, [0]), (.iload_n 3, 0, [3]), (.invokevirtual 157, 0, [498, 4, 9, 30, 0, 100, 0]), (.aload_n 0, 0, [0]), (.dup, 0, []), (.getfield 96, 0, [4, 3, 0]), (.bipush 8, 8, []), (.iload_n 3, 0, [3]), (.imul, 0, []), (.iadd, 0, []), (.putfield 96, 0, [4, 3, 0]), (.return_, 0, [])]
def cd496 : List (Nat × List E) := [(0, s496_0), (15, s496_15), (52, s496_52), (64, s496_64), (67, s496_67)]
theorem l496_0 : lkc cd496 0 = s496_0 := rfl
theorem l496_15 : lkc cd496 15 = s496_15 := rfl
theorem l496_52 : lkc cd496 52 = s496_52 := rfl
theorem l496_64 : lkc cd496 64 = s496_64 := rfl
theorem l496_67 : lkc cd496 67 = s496_67 := rfl
theorem k496 : chkM 496 4 true cd496 = true := by decide +kernel
/- Opener.align()V -/
def s497_0 : List E := [(.aload_n 0, 0, [0]), (.bipush 8, 8, []), (.aload_n 0, 0, [0]), (.getfield 96, 0, [4, 3, 0]), (.bipush 8, 8, []), (.irem, 0, []), (.isub, 0, []), (.bipush 7, 7, []), (.iand, 0, []), (.invokevirtual 115, 0, [493, 4, 9, 8, 0, 0, 0]), (.ifCond .eq 9, 0, [26]), (.aload_n 0, 0, [0]), (.iconst 5, 5, []), (.invokevirtual 104, 0, [494, 4, 9, 31, 0, 23, 0]), (.athrow, 0, [])]
def s497_26 : List E := [(.return_, 0, [])]
def cd497 : List (Nat × List E) := [(0, s497_0), (26, s497_26)]
theorem l497_0 : lkc cd497 0 = s497_0 := rfl
theorem l497_26 : lkc cd497 26 = s497_26 := rfl
theorem k497 : chkM 497 4 true cd497 = true := by decide +kernel
/- Opener.needs(I)V -/
def s498_0 : List E := [(.iload_n 1, 0, [1]), (.aload_n 0, 0, [0]), (.getfield 101, 0, [4, 1, 0]), (.aload_n 0, 0, [0]), (.getfield 96, 0, [4, 3, 0]), (.isub, 0, []), (.iconst 3, 3, []), (.ishr, 0, []), (.if_icmp .le 9, 0, [21]), (.aload_n 0, 0, [0]), (.iconst 1, 1, []), (.invokevirtual 104, 0, [494, 4, 9, 8, 0, 23, 0]), (.athrow, 0, [])]
def s498_21 : List E := [(.return_, 0, [])]
def cd498 : List (Nat × List E) := [(0, s498_0), (21, s498_21)]
theorem l498_0 : lkc cd498 0 = s498_0 := rfl
theorem l498_21 : lkc cd498 21 = s498_21 := rfl
theorem k498 : chkM 498 4 true cd498 = true := by decide +kernel
/- Opener.coded(I)V -/
def s499_0 : List E := [(.iconst 0, 0, []), (.istore_n 2, 0, [2]), (.nop, 0, [2])]
def s499_2 : List E := [(.iload_n 2, 0, [2]), (.iconst 3, 3, []), (.if_icmp .ge 14, 0, [18]), (.aload_n 0, 0, [0]), (.iload_n 2, 0, [2]), (.invokevirtual 237, 0, [500, 4, 9, 52, 0, 100, 0]), (.iinc 2 1, 1, [2]), (.goto (-13), 0, [2])]
def s499_18 : List E := [(.aload_n 0, 0, [0]), (.iconst 2, 2, []), (.invokevirtual 115, 0, [493, 4, 9, 155, 0, 0, 0]), (.istore_n 2, 0, [2]), (.aload_n 0, 0, [0]), (.iconst 4, 4, []), (.invokevirtual 115, 0, [493, 4, 9, 155, 0, 0, 0]), (.iload_n 2, 0, [2]), (.ishl, 0, []), (.istore_n 3, 0, [3]), (.iconst 0, 0, []), (.istore 4, 0, [4]), (.nop, 0, [35])]
def s499_35 : List E := [(.iload 4, 0, [4]), (.aload_n 0, 0, [0]), (.getfield 20, 3, [4, 5, 81, 1]), (.iconst 0, 0, []), (.iaload, 0, []), (.if_icmp .ge 21, 0, [64]), (.aload_n 0, 0, [0]), (.getfield 66, 30, [4, 18, 81, 1]), (.iload 4, 0, [4]), (.aload_n 0, 0, [0]), (.iconst 2, 2, []), (.invokevirtual 115, 0, [493, 4, 9, 155, 0, 0, 0]), (.iastore, 0, []), (.iinc 4 1, 1, [4]), (.goto (-26), 0, [35])]
def s499_64 : List E := [(.aload_n 0, 0, [0]), (.invokevirtual 170, 0, [501, 4, 9, 134, 0, 0]), (.istore 4, 0, [4]), (.aload_n 0, 0, [0]), (.aload_n 0, 0, [0]), (.getfield 60, 28, [4, 16, 81, 1]), (.bipush 64, 64, []), (.aload_n 0, 0, [0]), (.getfield 20, 3, [4, 5, 81, 1]), (.iconst 0, 0, []), (.iaload, 0, []), (.imul, 0, []), (.iload 4, 0, [4]), (.invokevirtual 240, 0, [509, 4, 9, 46, 0, 100, 0, 0, 46]), (.aload_n 0, 0, [0]), (.invokevirtual 170, 0, [501, 4, 9, 134, 0, 0]), (.istore 5, 0, [5]), (.aload_n 0, 0, [0]), (.aload_n 0, 0, [0]), (.getfield 63, 29, [4, 17, 81, 1]), (.iconst 4, 4, []), (.aload_n 0, 0, [0]), (.getfield 20, 3, [4, 5, 81, 1]), (.iconst 2, 2, []), (.iaload, 0, []), (.imul, 0, []), (.iload 5, 0, [5]), (.invokevirtual 240, 0, [509, 4, 9, 46, 0, 100, 0, 0, 46]), (.iconst 0, 0, []), (.istore 6, 0, [6]), (.nop, 0, [116])]
def s499_116 : List E := [(.iload 6, 0, [6]), (.iload 4, 0, [4]), (.if_icmp .ge 22, 0, [142]), (.aload_n 0, 0, [0]), (.aload_n 0, 0, [0]), (.getfield 51, 19, [4, 13, 11, 1]), (.iload 6, 0, [6]), (.sipush 256, 256, []), (.invokevirtual 173, 0, [502, 4, 9, 73, 0, 100, 0, 0, 11]), (.iinc 6 1, 1, [6]), (.goto (-23), 0, [116])]
def s499_142 : List E := [(.iconst 0, 0, []), (.istore 6, 0, [6]), (.nop, 0, [145])]
def s499_145 : List E := [(.iload 6, 0, [6]), (.aload_n 0, 0, [0]), (.getfield 20, 3, [4, 5, 81, 1]), (.iconst 1, 1, []), (.iaload, 0, []), (.if_icmp .ge 22, 0, [175]), (.aload_n 0, 0, [0]), (.aload_n 0, 0, [0]), (.getfield 54, 22, [4, 14, 11, 1]), (.iload 6, 0, [6]), (.sipush 704, 704, []), (.invokevirtual 173, 0, [502, 4, 9, 73, 0, 100, 0, 0, 11]), (.iinc 6 1, 1, [6]), (.goto (-27), 0, [145])]
def s499_175 : List E := [(.iconst 0, 0, []), (.istore 6, 0, [6]), (.nop, 0, [178])]
def s499_178 : List E := [(.iload 6, 0, [6]), (.iload 5, 0, [5]), (.if_icmp .ge 28, 0, [210]), (.aload_n 0, 0, [0]), (.aload_n 0, 0, [0]), (.getfield 57, 25, [4, 15, 11, 1]), (.iload 6, 0, [6]), (.bipush 16, 16, []), (.iload_n 3, 0, [3]), (.iadd, 0, []), (.bipush 48, 48, []), (.iload_n 2, 0, [2]), (.ishl, 0, []), (.iadd, 0, []), (.invokevirtual 173, 0, [502, 4, 9, 73, 0, 100, 0, 0, 11]), (.iinc 6 1, 1, [6]), (.goto (-29), 0, [178])]
def s499_210 : List E := [(.aload_n 0, 0, [0]), (.getfield 14, 1, [4, 2, 3, 1]), (.getfield 118, 0, [1, 1, 0]), (.iload_n 1, 0, [1]), (.iadd, 0, []), (.istore 6, 0, [6]), (.nop, 0, [221])]
def s499_221 : List E := [(.aload_n 0, 0, [0]), (.getfield 14, 1, [4, 2, 3, 1]), (.getfield 118, 0, [1, 1, 0]), (.iload 6, 0, [6]), (.if_icmp .ge 14, 0, [244]), (.aload_n 0, 0, [0]), (.iload 6, 0, [6]), (.iload_n 2, 0, [2]), (.iload_n 3, 0, [3]), (.invokevirtual 244, 0, [511, 4, 9, 8, 0, 100, 0, 0, 0]), (.goto (-20), 0, [221])]
def s499_244 : List E := [(.return_, 0, [])]
def cd499 : List (Nat × List E) := [(0, s499_0), (2, s499_2), (18, s499_18), (35, s499_35), (64, s499_64), (116, s499_116), (142, s499_142), (145, s499_145), (175, s499_175), (178, s499_178), (210, s499_210), (221, s499_221), (244, s499_244)]
theorem l499_0 : lkc cd499 0 = s499_0 := rfl
theorem l499_2 : lkc cd499 2 = s499_2 := rfl
theorem l499_18 : lkc cd499 18 = s499_18 := rfl
theorem l499_35 : lkc cd499 35 = s499_35 := rfl
theorem l499_64 : lkc cd499 64 = s499_64 := rfl
theorem l499_116 : lkc cd499 116 = s499_116 := rfl
theorem l499_142 : lkc cd499 142 = s499_142 := rfl
theorem l499_145 : lkc cd499 145 = s499_145 := rfl
theorem l499_175 : lkc cd499 175 = s499_175 := rfl
theorem l499_178 : lkc cd499 178 = s499_178 := rfl
theorem l499_210 : lkc cd499 210 = s499_210 := rfl
theorem l499_221 : lkc cd499 221 = s499_221 := rfl
theorem l499_244 : lkc cd499 244 = s499_244 := rfl
theorem k499 : chkM 499 4 true cd499 = true := by decide +kernel
/- Opener.kind(I)V -/
def s500_0 : List E := [(.aload_n 0, 0, [0]), (.getfield 20, 3, [4, 5, 81, 1]), (.iload_n 1, 0, [1]), (.aload_n 0, 0, [0]), (.invokevirtual 170, 0, [501, 4, 9, 69, 0, 0]), (.iastore, 0, []), (.aload_n 0, 0, [0]), (.getfield 24, 4, [4, 6, 81, 1]), (.iload_n 1, 0, [1]), (.iconst 0, 0, []), (.iastore, 0, []), (.aload_n 0, 0, [0]), (.getfield 27, 5, [4, 7, 81, 1]), (.iload_n 1, 0, [1]), (.iconst 1, 1, []), (.iastore, 0, []), (.aload_n 0, 0, [0]), (.getfield 20, 3, [4, 5, 81, 1]), (.iload_n 1, 0, [1]), (.iaload, 0, []), (.iconst 2, 2, []), (.if_icmp .ge 4, 0, [35]), (.return_, 0, [])]
def s500_35 : List E := [(.aload_n 0, 0, [0]), (.aload_n 0, 0, [0]), (.getfield 38, 7, [4, 9, 11, 1]), (.iload_n 1, 0, [1]), (.aload_n 0, 0, [0]), (.getfield 20, 3, [4, 5, 81, 1]), (.iload_n 1, 0, [1]), (.iaload, 0, []), (.iconst 2, 2, []), (.iadd, 0, []), (.invokevirtual 173, 0, [502, 4, 9, 8, 0, 100, 0, 0, 11]), (.aload_n 0, 0, [0]), (.aload_n 0, 0, [0]), (.getfield 42, 10, [4, 10, 11, 1]), (.iload_n 1, 0, [1]), (.bipush 26, 26, []), (.invokevirtual 173, 0, [502, 4, 9, 8, 0, 100, 0, 0, 11]), (.aload_n 0, 0, [0]), (.getfield 30, 6, [4, 8, 81, 1]), (.iload_n 1, 0, [1]), (.aload_n 0, 0, [0]), (.iload_n 1, 0, [1]), (.invokevirtual 177, 0, [508, 4, 9, 41, 0, 0, 0]), (.iastore, 0, []), (.return_, 0, [])]
def cd500 : List (Nat × List E) := [(0, s500_0), (35, s500_35)]
theorem l500_0 : lkc cd500 0 = s500_0 := rfl
theorem l500_35 : lkc cd500 35 = s500_35 := rfl
theorem k500 : chkM 500 4 true cd500 = true := by decide +kernel
/- Opener.small()I -/
def s501_0 : List E := [(.aload_n 0, 0, [0]), (.iconst 1, 1, []), (.invokevirtual 115, 0, [493, 4, 9, 8, 0, 0, 0]), (.ifCond .ne 5, 0, [10]), (.iconst 1, 1, []), (.ireturn, 0, [])]
def s501_10 : List E := [(.aload_n 0, 0, [0]), (.iconst 3, 3, []), (.invokevirtual 115, 0, [493, 4, 9, 8, 0, 0, 0]), (.istore_n 1, 0, [1]), (.iconst 1, 1, []), (.iconst 1, 1, []), (.iload_n 1, 0, [1]), (.ishl, 0, []), (.iadd, 0, []), (.aload_n 0, 0, [0]), (.iload_n 1, 0, [1]), (.invokevirtual 115, 0, [493, 4, 9, 8, 0, 0, 0]), (.iadd, 0, []), (.ireturn, 0, [])]
def cd501 : List (Nat × List E) := [(0, s501_0), (10, s501_10)]
theorem l501_0 : lkc cd501 0 = s501_0 := rfl
theorem l501_10 : lkc cd501 10 = s501_10 := rfl
theorem k501 : chkM 501 4 true cd501 = true := by decide +kernel
/- Opener.tell(LFontHouse$Codes;II)V -/
def s502_0 : List E := [(.aload_n 0, 0, [0]), (.iconst 2, 2, []), (.invokevirtual 115, 0, [493, 4, 9, 65, 0, 0, 0]), (.istore 4, 0, [4]), (.iconst 0, 0, []), (.istore 5, 0, [5]), (.nop, 0, [10])]
def s502_10 : List E := [(.iload 5, 0, [5]), (.iload_n 3, 0, [3]), (.if_icmp .ge 17, 0, [30]), (.aload_n 0, 0, [0]), (.getfield 79, 32, [4, 20, 81, 1]), (.iload 5, 0, [5]), (.iconst 0, 0, []), (.iastore, 0, []), (.iinc 5 1, 1, [5]), (.goto (-17), 0, [10])]
def s502_30 : List E := [(.iload 4, 0, [4]), (.iconst 1, 1, []), (.if_icmp .ne 11, 0, [44]), (.aload_n 0, 0, [0]), (.aload_n 1, 0, [1]), (.iload_n 2, 0, [2]), (.iload_n 3, 0, [3]), (.invokevirtual 195, 0, [503, 4, 9, 38, 0, 100, 0, 0, 11]), (.return_, 0, [])]
def s502_44 : List E := [(.aload_n 0, 0, [0]), (.iload 4, 0, [4]), (.invokevirtual 198, 0, [505, 4, 9, 18, 0, 100, 0]), (.aload_n 0, 0, [0]), (.iload_n 3, 0, [3]), (.invokevirtual 201, 0, [507, 4, 9, 8, 0, 100, 0]), (.aload_n 1, 0, [1]), (.iload_n 2, 0, [2]), (.aload_n 0, 0, [0]), (.getfield 79, 32, [4, 20, 81, 1]), (.iload_n 3, 0, [3]), (.invokevirtual 204, 0, [518, 5, 11, 145, 0, 100, 0, 46, 0]), (.return_, 0, [])]
def cd502 : List (Nat × List E) := [(0, s502_0), (10, s502_10), (30, s502_30), (44, s502_44)]
theorem l502_0 : lkc cd502 0 = s502_0 := rfl
theorem l502_10 : lkc cd502 10 = s502_10 := rfl
theorem l502_30 : lkc cd502 30 = s502_30 := rfl
theorem l502_44 : lkc cd502 44 = s502_44 := rfl
theorem k502 : chkM 502 4 true cd502 = true := by decide +kernel
/- Opener.simple(LFontHouse$Codes;II)V -/
def s503_0 : List E := [(.aload_n 0, 0, [0]), (.iconst 2, 2, []), (.invokevirtual 115, 0, [493, 4, 9, 8, 0, 0, 0]), (.iconst 1, 1, []), (.iadd, 0, []), (.istore 4, 0, [4]), (.iconst 0, 0, []), (.istore 5, 0, [5]), (.nop, 0, [12])]
def s503_12 : List E := [(.iload 5, 0, [5]), (.iload 4, 0, [4]), (.if_icmp .ge 99, 0, [115]), (.aload_n 0, 0, [0]), (.getfield 85, 34, [4, 22, 81, 1]), (.iload 5, 0, [5]), (.aload_n 0, 0, [0]), (.iload_n 3, 0, [3]), (.iconst 1, 1, []), (.isub, 0, []), (.invokestatic 208, 0, [504, 95, 0, 0, 0]), (.invokevirtual 115, 0, [493, 4, 9, 8, 0, 0, 0]), (.iastore, 0, []), (.aload_n 0, 0, [0]), (.getfield 85, 34, [4, 22, 81, 1]), (.iload 5, 0, [5]), (.iaload, 0, []), (.iload_n 3, 0, [3]), (.if_icmp .ge 7, 0, [51]), (.iconst 1, 1, []), (.goto 4, 0, [52])]
def s503_51 : List E := [(.iconst 0, 0, []), (.nop, 0, [52])]
def s503_52 : List E := [(.istore 6, 0, [6]), (.iconst 0, 0, []), (.istore 7, 0, [7]), (.nop, 0, [57])]
def s503_57 : List E := [(.iload 7, 0, [7]), (.iload 5, 0, [5]), (.if_icmp .ge 36, 0, [97]), (.iload 6, 0, [6]), (.aload_n 0, 0, [0]), (.getfield 85, 34, [4, 22, 81, 1]), (.iload 7, 0, [7]), (.iaload, 0, []), (.aload_n 0, 0, [0]), (.getfield 85, 34, [4, 22, 81, 1]), (.iload 5, 0, [5]), (.iaload, 0, []), (.if_icmp .eq 7, 0, [87]), (.iconst 1, 1, []), (.goto 4, 0, [88])]
def s503_87 : List E := [(.iconst 0, 0, []), (.nop, 0, [88])]
def s503_88 : List E := [(.iand, 0, []), (.istore 6, 0, [6]), (.iinc 7 1, 1, [7]), (.goto (-37), 0, [57])]
def s503_97 : List E := [(.iload 6, 0, [6]), (.ifCond .ne 10, 0, [109]), (.aload_n 0, 0, [0]), (.bipush 6, 6, []), (.invokevirtual 104, 0, [494, 4, 9, 31, 0, 23, 0]), (.athrow, 0, [])]
def s503_109 : List E := [(.iinc 5 1, 1, [5]), (.goto (-100), 0, [12])]
def s503_115 : List E := [(.iload 4, 0, [4]), (.iconst 1, 1, []), (.if_icmp .ne 15, 0, [133]), (.aload_n 1, 0, [1]), (.iload_n 2, 0, [2]), (.aload_n 0, 0, [0]), (.getfield 85, 34, [4, 22, 81, 1]), (.iconst 0, 0, []), (.iaload, 0, []), (.invokevirtual 211, 0, [516, 5, 11, 92, 0, 100, 0, 0]), (.return_, 0, [])]
def s503_133 : List E := [(.iload 4, 0, [4]), (.iconst 3, 3, []), (.if_icmp .eq 18, 0, [154]), (.iload 4, 0, [4]), (.iconst 4, 4, []), (.if_icmp .ne 16, 0, [158]), (.aload_n 0, 0, [0]), (.iconst 1, 1, []), (.invokevirtual 115, 0, [493, 4, 9, 8, 0, 0, 0]), (.iconst 1, 1, []), (.if_icmp .ne 7, 0, [158]), (.nop, 0, [154])]
def s503_154 : List E := [(.iconst 1, 1, []), (.goto 4, 0, [159])]
def s503_158 : List E := [(.iconst 0, 0, []), (.nop, 0, [159])]
def s503_159 : List E := [(.istore 5, 0, [5]), (.iconst 0, 0, []), (.istore 6, 0, [6]), (.nop, 0, [164])]
def s503_164 : List E := [(.iload 6, 0, [6]), (.iload 4, 0, [4]), (.if_icmp .ge 44, 0, [212]), (.aload_n 0, 0, [0]), (.getfield 79, 32, [4, 20, 81, 1]), (.aload_n 0, 0, [0]), (.getfield 85, 34, [4, 22, 81, 1]), (.iload 6, 0, [6]), (.iaload, 0, []), (.iload 5, 0, [5]), (.ifCond .eq 17, 0, [201]), (.iload 6, 0, [6]), (.iconst 1, 1, []), (.iadd, 0, []), (.iload 4, 0, [4]), (.iconst 1, 1, []), (.isub, 0, []), (.invokestatic 214, 0, [0, 115, 0, 0, 0, 0]), (.goto 7, 0, [205])]
def s503_201 : List E := [(.iload 4, 0, [4]), (.iconst 2, 2, []), (.idiv, 0, []), (.nop, 0, [205])]
def s503_205 : List E := [(.iastore, 0, []), (.iinc 6 1, 1, [6]), (.goto (-45), 0, [164])]
def s503_212 : List E := [(.aload_n 1, 0, [1]), (.iload_n 2, 0, [2]), (.aload_n 0, 0, [0]), (.getfield 79, 32, [4, 20, 81, 1]), (.iload_n 3, 0, [3]), (.invokevirtual 204, 0, [518, 5, 11, 88, 0, 100, 0, 46, 0]), (.return_, 0, [])]
def cd503 : List (Nat × List E) := [(0, s503_0), (12, s503_12), (51, s503_51), (52, s503_52), (57, s503_57), (87, s503_87), (88, s503_88), (97, s503_97), (109, s503_109), (115, s503_115), (133, s503_133), (154, s503_154), (158, s503_158), (159, s503_159), (164, s503_164), (201, s503_201), (205, s503_205), (212, s503_212)]
theorem l503_0 : lkc cd503 0 = s503_0 := rfl
theorem l503_12 : lkc cd503 12 = s503_12 := rfl
theorem l503_51 : lkc cd503 51 = s503_51 := rfl
theorem l503_52 : lkc cd503 52 = s503_52 := rfl
theorem l503_57 : lkc cd503 57 = s503_57 := rfl
theorem l503_87 : lkc cd503 87 = s503_87 := rfl
theorem l503_88 : lkc cd503 88 = s503_88 := rfl
theorem l503_97 : lkc cd503 97 = s503_97 := rfl
theorem l503_109 : lkc cd503 109 = s503_109 := rfl
theorem l503_115 : lkc cd503 115 = s503_115 := rfl
theorem l503_133 : lkc cd503 133 = s503_133 := rfl
theorem l503_154 : lkc cd503 154 = s503_154 := rfl
theorem l503_158 : lkc cd503 158 = s503_158 := rfl
theorem l503_159 : lkc cd503 159 = s503_159 := rfl
theorem l503_164 : lkc cd503 164 = s503_164 := rfl
theorem l503_201 : lkc cd503 201 = s503_201 := rfl
theorem l503_205 : lkc cd503 205 = s503_205 := rfl
theorem l503_212 : lkc cd503 212 = s503_212 := rfl
theorem k503 : chkM 503 4 true cd503 = true := by decide +kernel
/- Opener.width(I)I -/
def s504_0 : List E := [(.bipush 32, 32, []), (.iload_n 0, 0, [0]), (.invokestatic 190, 0, [31, 8, 0, 0, 0]), (.isub, 0, []), (.ireturn, 0, [])]
def cd504 : List (Nat × List E) := [(0, s504_0)]
theorem l504_0 : lkc cd504 0 = s504_0 := rfl
theorem k504 : chkM 504 4 true cd504 = true := by decide +kernel
/- Opener.tellLengthCode(I)V -/
def s505_0 : List E := [(.iconst 0, 0, []), (.istore_n 2, 0, [2]), (.nop, 0, [2])]
def s505_2 : List E := [(.iload_n 2, 0, [2]), (.bipush 18, 18, []), (.if_icmp .ge 16, 0, [21]), (.aload_n 0, 0, [0]), (.getfield 82, 33, [4, 21, 81, 1]), (.iload_n 2, 0, [2]), (.iconst 0, 0, []), (.iastore, 0, []), (.iinc 2 1, 1, [2]), (.goto (-16), 0, [2])]
def s505_21 : List E := [(.bipush 32, 32, []), (.istore_n 2, 0, [2]), (.iconst 0, 0, []), (.istore_n 3, 0, [3]), (.iconst 0, 0, []), (.istore 4, 0, [4]), (.iload_n 1, 0, [1]), (.istore 5, 0, [5]), (.nop, 0, [32])]
def s505_32 : List E := [(.iload 5, 0, [5]), (.bipush 18, 18, []), (.if_icmp .ge 59, 0, [95]), (.iload_n 2, 0, [2]), (.ifCond .le 55, 0, [95]), (.aload_n 0, 0, [0]), (.invokevirtual 220, 0, [506, 4, 9, 8, 0, 0]), (.istore 6, 0, [6]), (.iload 6, 0, [6]), (.ifCond .ne 6, 0, [57]), (.goto 35, 0, [89])]
def s505_57 : List E := [(.aload_n 0, 0, [0]), (.getfield 82, 33, [4, 21, 81, 1]), (.getstatic 223, 1, [7, 81]), (.iload 5, 0, [5]), (.iaload, 0, []), (.iload 6, 0, [6]), (.iastore, 0, []), (.iload_n 2, 0, [2]), (.bipush 32, 32, []), (.iload 6, 0, [6]), (.ishr, 0, []), (.isub, 0, []), (.istore_n 2, 0, [2]), (.iinc 3 1, 1, [3]), (.getstatic 223, 1, [7, 81]), (.iload 5, 0, [5]), (.iaload, 0, []), (.istore 4, 0, [4]), (.nop, 0, [89])]
def s505_89 : List E := [(.iinc 5 1, 1, [5]), (.goto (-60), 0, [32])]
def s505_95 : List E := [(.iload_n 3, 0, [3]), (.ifCond .eq 12, 0, [108]), (.iload_n 3, 0, [3]), (.iconst 1, 1, []), (.if_icmp .le 14, 0, [115]), (.iload_n 2, 0, [2]), (.ifCond .eq 10, 0, [115]), (.nop, 0, [108])]
def s505_108 : List E := [(.aload_n 0, 0, [0]), (.bipush 7, 7, []), (.invokevirtual 104, 0, [494, 4, 9, 52, 0, 23, 0]), (.athrow, 0, [])]
def s505_115 : List E := [(.iload_n 3, 0, [3]), (.iconst 1, 1, []), (.if_icmp .ne 16, 0, [133]), (.aload_n 0, 0, [0]), (.getfield 45, 13, [4, 11, 11, 1]), (.iconst 0, 0, []), (.iload 4, 0, [4]), (.invokevirtual 211, 0, [516, 5, 11, 113, 0, 100, 0, 0]), (.goto 17, 0, [147])]
def s505_133 : List E := [(.aload_n 0, 0, [0]), (.getfield 45, 13, [4, 11, 11, 1]), (.iconst 0, 0, []), (.aload_n 0, 0, [0]), (.getfield 82, 33, [4, 21, 81, 1]), (.bipush 18, 18, []), (.invokevirtual 204, 0, [518, 5, 11, 109, 0, 100, 0, 46, 0]), (.nop, 0, [147])]
def s505_147 : List E := [(.return_, 0, [])]
def cd505 : List (Nat × List E) := [(0, s505_0), (2, s505_2), (21, s505_21), (32, s505_32), (57, s505_57), (89, s505_89), (95, s505_95), (108, s505_108), (115, s505_115), (133, s505_133), (147, s505_147)]
theorem l505_0 : lkc cd505 0 = s505_0 := rfl
theorem l505_2 : lkc cd505 2 = s505_2 := rfl
theorem l505_21 : lkc cd505 21 = s505_21 := rfl
theorem l505_32 : lkc cd505 32 = s505_32 := rfl
theorem l505_57 : lkc cd505 57 = s505_57 := rfl
theorem l505_89 : lkc cd505 89 = s505_89 := rfl
theorem l505_95 : lkc cd505 95 = s505_95 := rfl
theorem l505_108 : lkc cd505 108 = s505_108 := rfl
theorem l505_115 : lkc cd505 115 = s505_115 := rfl
theorem l505_133 : lkc cd505 133 = s505_133 := rfl
theorem l505_147 : lkc cd505 147 = s505_147 := rfl
theorem k505 : chkM 505 4 true cd505 = true := by decide +kernel
/- Opener.shortLength()I -/
def s506_0 : List E := [(.aload_n 0, 0, [0]), (.iconst 2, 2, []), (.invokevirtual 115, 0, [493, 4, 9, 8, 0, 0, 0]), (.istore_n 1, 0, [1]), (.iload_n 1, 0, [1]), (.iconst 3, 3, []), (.if_icmp .ge 22, 0, [30]), (.iload_n 1, 0, [1]), (.ifCond .ne 7, 0, [19]), (.iconst 0, 0, []), (.goto 13, 0, [29])]
def s506_19 : List E := [(.iload_n 1, 0, [1]), (.iconst 1, 1, []), (.if_icmp .ne 7, 0, [28]), (.iconst 4, 4, []), (.goto 4, 0, [29])]
def s506_28 : List E := [(.iconst 3, 3, []), (.nop, 0, [29])]
def s506_29 : List E := [(.ireturn, 0, [])]
def s506_30 : List E := [(.aload_n 0, 0, [0]), (.iconst 1, 1, []), (.invokevirtual 115, 0, [493, 4, 9, 8, 0, 0, 0]), (.ifCond .ne 5, 0, [40]), (.iconst 2, 2, []), (.ireturn, 0, [])]
def s506_40 : List E := [(.aload_n 0, 0, [0]), (.iconst 1, 1, []), (.invokevirtual 115, 0, [493, 4, 9, 8, 0, 0, 0]), (.ifCond .ne 7, 0, [52]), (.iconst 1, 1, []), (.goto 4, 0, [53])]
def s506_52 : List E := [(.iconst 5, 5, []), (.nop, 0, [53])]
def s506_53 : List E := [(.ireturn, 0, [])]
def cd506 : List (Nat × List E) := [(0, s506_0), (19, s506_19), (28, s506_28), (29, s506_29), (30, s506_30), (40, s506_40), (52, s506_52), (53, s506_53)]
theorem l506_0 : lkc cd506 0 = s506_0 := rfl
theorem l506_19 : lkc cd506 19 = s506_19 := rfl
theorem l506_28 : lkc cd506 28 = s506_28 := rfl
theorem l506_29 : lkc cd506 29 = s506_29 := rfl
theorem l506_30 : lkc cd506 30 = s506_30 := rfl
theorem l506_40 : lkc cd506 40 = s506_40 := rfl
theorem l506_52 : lkc cd506 52 = s506_52 := rfl
theorem l506_53 : lkc cd506 53 = s506_53 := rfl
theorem k506 : chkM 506 4 true cd506 = true := by decide +kernel
/- Opener.tellLengths(I)V -/
def s507_0 : List E := [(.iconst 0, 0, []), (.istore_n 2, 0, [2]), (.bipush 8, 8, []), (.istore_n 3, 0, [3]), (.iconst 0, 0, []), (.istore 4, 0, [4]), (.iconst 0, 0, []), (.istore 5, 0, [5]), (.ldc 226, 32768, []), (.istore 6, 0, [6]), (.nop, 0, [15])]
def s507_15 : List E := [(.iload_n 2, 0, [2]), (.iload_n 1, 0, [1]), (.if_icmp .ge 183, 0, [200]), (.iload 6, 0, [6]), (.ifCond .le 178, 0, [200]), (.aload_n 0, 0, [0]), (.getfield 45, 13, [4, 11, 11, 1]), (.aload_n 0, 0, [0]), (.iconst 0, 0, []), (.invokevirtual 180, 0, [519, 5, 11, 8, 0, 0, 0, 10]), (.istore 7, 0, [7]), (.iload 7, 0, [7]), (.bipush 16, 16, []), (.if_icmp .ge 8, 0, [48]), (.iload 7, 0, [7]), (.goto 15, 0, [60])]
def s507_48 : List E := [(.iload 7, 0, [7]), (.bipush 16, 16, []), (.if_icmp .ne 7, 0, [59]), (.iload_n 3, 0, [3]), (.goto 4, 0, [60])]
def s507_59 : List E := [(.iconst 0, 0, []), (.nop, 0, [60])]
def s507_60 : List E := [(.istore 8, 0, [8]), (.iconst 1, 1, []), (.istore 9, 0, [9]), (.iload 7, 0, [7]), (.bipush 16, 16, []), (.if_icmp .lt 73, 0, [142]), (.iload 4, 0, [4]), (.iload 7, 0, [7]), (.if_icmp .ne 8, 0, [84]), (.iload 5, 0, [5]), (.goto 4, 0, [85])]
def s507_84 : List E := [(.iconst 0, 0, []), (.nop, 0, [85])]
def s507_85 : List E := [(.istore 10, 0, [10]), (.iload 10, 0, [10]), (.ifCond .le 16, 0, [105]), (.iload 10, 0, [10]), (.iconst 2, 2, []), (.isub, 0, []), (.iload 7, 0, [7]), (.bipush 14, 14, []), (.isub, 0, []), (.ishl, 0, []), (.goto 4, 0, [106])]
def s507_105 : List E := [(.iconst 0, 0, []), (.nop, 0, [106])]
def s507_106 : List E := [(.iconst 3, 3, []), (.iadd, 0, []), (.aload_n 0, 0, [0]), (.iload 7, 0, [7]), (.bipush 14, 14, []), (.isub, 0, []), (.invokevirtual 115, 0, [493, 4, 9, 35, 0, 0, 0]), (.iadd, 0, []), (.istore 5, 0, [5]), (.iload 5, 0, [5]), (.iload 10, 0, [10]), (.isub, 0, []), (.istore 9, 0, [9]), (.iload 9, 0, [9]), (.iload_n 1, 0, [1]), (.iload_n 2, 0, [2]), (.isub, 0, []), (.if_icmp .le 10, 0, [142]), (.aload_n 0, 0, [0]), (.bipush 8, 8, []), (.invokevirtual 104, 0, [494, 4, 9, 58, 0, 23, 0]), (.athrow, 0, [])]
def s507_142 : List E := [(.iload 7, 0, [7]), (.istore 4, 0, [4]), (.iconst 0, 0, []), (.istore 10, 0, [10]), (.nop, 0, [149])]
def s507_149 : List E := [(.iload 10, 0, [10]), (.iload 9, 0, [9]), (.if_icmp .ge 20, 0, [173]), (.aload_n 0, 0, [0]), (.getfield 79, 32, [4, 20, 81, 1]), (.iload_n 2, 0, [2]), (.iinc 2 1, 1, [2]), (.iload 8, 0, [8]), (.iastore, 0, []), (.iinc 10 1, 1, [10]), (.goto (-21), 0, [149])]
def s507_173 : List E := [(.iload 8, 0, [8]), (.ifCond .ne 6, 0, [181]), (.goto (-163), 0, [15])]
def s507_181 : List E := [(.iload 8, 0, [8]), (.istore_n 3, 0, [3]), (.iload 6, 0, [6]), (.iload 9, 0, [9]), (.ldc 226, 32768, []), (.iload 8, 0, [8]), (.ishr, 0, []), (.imul, 0, []), (.isub, 0, []), (.istore 6, 0, [6]), (.goto (-182), 0, [15])]
def s507_200 : List E := [(.iload 6, 0, [6]), (.ifCond .eq 10, 0, [212]), (.aload_n 0, 0, [0]), (.bipush 8, 8, []), (.invokevirtual 104, 0, [494, 4, 9, 58, 0, 23, 0]), (.athrow, 0, [])]
def s507_212 : List E := [(.return_, 0, [])]
def cd507 : List (Nat × List E) := [(0, s507_0), (15, s507_15), (48, s507_48), (59, s507_59), (60, s507_60), (84, s507_84), (85, s507_85), (105, s507_105), (106, s507_106), (142, s507_142), (149, s507_149), (173, s507_173), (181, s507_181), (200, s507_200), (212, s507_212)]
theorem l507_0 : lkc cd507 0 = s507_0 := rfl
theorem l507_15 : lkc cd507 15 = s507_15 := rfl
theorem l507_48 : lkc cd507 48 = s507_48 := rfl
theorem l507_59 : lkc cd507 59 = s507_59 := rfl
theorem l507_60 : lkc cd507 60 = s507_60 := rfl
theorem l507_84 : lkc cd507 84 = s507_84 := rfl
theorem l507_85 : lkc cd507 85 = s507_85 := rfl
theorem l507_105 : lkc cd507 105 = s507_105 := rfl
theorem l507_106 : lkc cd507 106 = s507_106 := rfl
theorem l507_142 : lkc cd507 142 = s507_142 := rfl
theorem l507_149 : lkc cd507 149 = s507_149 := rfl
theorem l507_173 : lkc cd507 173 = s507_173 := rfl
theorem l507_181 : lkc cd507 181 = s507_181 := rfl
theorem l507_200 : lkc cd507 200 = s507_200 := rfl
theorem l507_212 : lkc cd507 212 = s507_212 := rfl
theorem k507 : chkM 507 4 true cd507 = true := by decide +kernel
/- Opener.count(I)I -/
def s508_0 : List E := [(.aload_n 0, 0, [0]), (.getfield 42, 10, [4, 10, 11, 1]), (.aload_n 0, 0, [0]), (.iload_n 1, 0, [1]), (.invokevirtual 180, 0, [519, 5, 11, 8, 0, 0, 0, 10]), (.istore_n 2, 0, [2]), (.getstatic 184, 6, [12, 81]), (.iload_n 2, 0, [2]), (.iaload, 0, []), (.aload_n 0, 0, [0]), (.getstatic 187, 7, [13, 81]), (.iload_n 2, 0, [2]), (.iaload, 0, []), (.invokevirtual 115, 0, [493, 4, 9, 35, 0, 0, 0]), (.iadd, 0, []), (.ireturn, 0, [])]
def cd508 : List (Nat × List E) := [(0, s508_0)]
theorem l508_0 : lkc cd508 0 = s508_0 := rfl
theorem k508 : chkM 508 4 true cd508 = true := by decide +kernel
/- Opener.tellMap([III)V -/
def s509_0 : List E := [(.iconst 0, 0, []), (.istore 4, 0, [4]), (.nop, 0, [3])]
def s509_3 : List E := [(.iload 4, 0, [4]), (.iload_n 2, 0, [2]), (.if_icmp .ge 14, 0, [20]), (.aload_n 1, 0, [1]), (.iload 4, 0, [4]), (.iconst 0, 0, []), (.iastore, 0, []), (.iinc 4 1, 1, [4]), (.goto (-14), 0, [3])]
def s509_20 : List E := [(.iload_n 3, 0, [3]), (.iconst 2, 2, []), (.if_icmp .ge 4, 0, [26]), (.return_, 0, [])]
def s509_26 : List E := [(.aload_n 0, 0, [0]), (.iconst 1, 1, []), (.invokevirtual 115, 0, [493, 4, 9, 90, 0, 0, 0]), (.ifCond .ne 7, 0, [38]), (.iconst 0, 0, []), (.goto 10, 0, [45])]
def s509_38 : List E := [(.aload_n 0, 0, [0]), (.iconst 4, 4, []), (.invokevirtual 115, 0, [493, 4, 9, 90, 0, 0, 0]), (.iconst 1, 1, []), (.iadd, 0, []), (.nop, 0, [45])]
def s509_45 : List E := [(.istore 4, 0, [4]), (.aload_n 0, 0, [0]), (.aload_n 0, 0, [0]), (.getfield 48, 16, [4, 12, 11, 1]), (.iconst 0, 0, []), (.iload_n 3, 0, [3]), (.iload 4, 0, [4]), (.iadd, 0, []), (.invokevirtual 173, 0, [502, 4, 9, 8, 0, 100, 0, 0, 11]), (.iconst 0, 0, []), (.istore 5, 0, [5]), (.nop, 0, [63])]
def s509_63 : List E := [(.iload 5, 0, [5]), (.iload_n 2, 0, [2]), (.if_icmp .ge 89, 0, [155]), (.aload_n 0, 0, [0]), (.getfield 48, 16, [4, 12, 11, 1]), (.aload_n 0, 0, [0]), (.iconst 0, 0, []), (.invokevirtual 180, 0, [519, 5, 11, 63, 0, 0, 0, 10]), (.istore 6, 0, [6]), (.iload 6, 0, [6]), (.ifCond .le 49, 0, [131]), (.iload 6, 0, [6]), (.iload 4, 0, [4]), (.if_icmp .gt 42, 0, [131]), (.iconst 1, 1, []), (.iload 6, 0, [6]), (.ishl, 0, []), (.aload_n 0, 0, [0]), (.iload 6, 0, [6]), (.invokevirtual 115, 0, [493, 4, 9, 90, 0, 0, 0]), (.iadd, 0, []), (.istore 7, 0, [7]), (.iload 7, 0, [7]), (.iload_n 2, 0, [2]), (.iload 5, 0, [5]), (.isub, 0, []), (.if_icmp .le 10, 0, [121]), (.aload_n 0, 0, [0]), (.bipush 9, 9, []), (.invokevirtual 104, 0, [494, 4, 9, 113, 0, 23, 0]), (.athrow, 0, [])]
def s509_121 : List E := [(.iload 5, 0, [5]), (.iload 7, 0, [7]), (.iadd, 0, []), (.istore 5, 0, [5]), (.goto 24, 0, [152])]
def s509_131 : List E := [(.aload_n 1, 0, [1]), (.iload 5, 0, [5]), (.iinc 5 1, 1, [5]), (.iload 6, 0, [6]), (.ifCond .ne 7, 0, [146]), (.iconst 0, 0, []), (.goto 8, 0, [151])]
def s509_146 : List E := [(.iload 6, 0, [6]), (.iload 4, 0, [4]), (.isub, 0, []), (.nop, 0, [151])]
def s509_151 : List E := [(.iastore, 0, []), (.nop, 0, [152])]
def s509_152 : List E := [(.goto (-89), 0, [63])]
def s509_155 : List E := [(.aload_n 0, 0, [0]), (.iconst 1, 1, []), (.invokevirtual 115, 0, [493, 4, 9, 90, 0, 0, 0]), (.iconst 1, 1, []), (.if_icmp .ne 9, 0, [170]), (.aload_n 0, 0, [0]), (.aload_n 1, 0, [1]), (.iload_n 2, 0, [2]), (.invokevirtual 227, 0, [510, 4, 9, 133, 0, 100, 0, 46]), (.nop, 0, [170])]
def s509_170 : List E := [(.return_, 0, [])]
def cd509 : List (Nat × List E) := [(0, s509_0), (3, s509_3), (20, s509_20), (26, s509_26), (38, s509_38), (45, s509_45), (63, s509_63), (121, s509_121), (131, s509_131), (146, s509_146), (151, s509_151), (152, s509_152), (155, s509_155), (170, s509_170)]
theorem l509_0 : lkc cd509 0 = s509_0 := rfl
theorem l509_3 : lkc cd509 3 = s509_3 := rfl
theorem l509_20 : lkc cd509 20 = s509_20 := rfl
theorem l509_26 : lkc cd509 26 = s509_26 := rfl
theorem l509_38 : lkc cd509 38 = s509_38 := rfl
theorem l509_45 : lkc cd509 45 = s509_45 := rfl
theorem l509_63 : lkc cd509 63 = s509_63 := rfl
theorem l509_121 : lkc cd509 121 = s509_121 := rfl
theorem l509_131 : lkc cd509 131 = s509_131 := rfl
theorem l509_146 : lkc cd509 146 = s509_146 := rfl
theorem l509_151 : lkc cd509 151 = s509_151 := rfl
theorem l509_152 : lkc cd509 152 = s509_152 := rfl
theorem l509_155 : lkc cd509 155 = s509_155 := rfl
theorem l509_170 : lkc cd509 170 = s509_170 := rfl
theorem k509 : chkM 509 4 true cd509 = true := by decide +kernel
/- Opener.moveBack([II)V -/
def s510_0 : List E := [(.iconst 0, 0, []), (.istore_n 3, 0, [3]), (.nop, 0, [2])]
def s510_2 : List E := [(.iload_n 3, 0, [3]), (.sipush 256, 256, []), (.if_icmp .ge 16, 0, [22]), (.aload_n 0, 0, [0]), (.getfield 88, 35, [4, 23, 81, 1]), (.iload_n 3, 0, [3]), (.iload_n 3, 0, [3]), (.iastore, 0, []), (.iinc 3 1, 1, [3]), (.goto (-17), 0, [2])]
def s510_22 : List E := [(.iconst 0, 0, []), (.istore_n 3, 0, [3]), (.nop, 0, [24])]
def s510_24 : List E := [(.iload_n 3, 0, [3]), (.iload_n 2, 0, [2]), (.if_icmp .ge 51, 0, [77]), (.aload_n 1, 0, [1]), (.iload_n 3, 0, [3]), (.iaload, 0, []), (.istore 4, 0, [4]), (.aload_n 0, 0, [0]), (.getfield 88, 35, [4, 23, 81, 1]), (.iload 4, 0, [4]), (.iaload, 0, []), (.istore 5, 0, [5]), (.aload_n 0, 0, [0]), (.getfield 88, 35, [4, 23, 81, 1]), (.iconst 0, 0, []), (.aload_n 0, 0, [0]), (.getfield 88, 35, [4, 23, 81, 1]), (.iconst 1, 1, []), (.iload 4, 0, [4]), (.invokestatic 231, 0, [40, 0]), (.aload_n 0, 0, [0]), (.getfield 88, 35, [4, 23, 81, 1]), (.iconst 0, 0, []), (.iload 5, 0, [5]), (.iastore, 0, []), (.aload_n 1, 0, [1]), (.iload_n 3, 0, [3]), (.iload 5, 0, [5]), (.iastore, 0, []), (.iinc 3 1, 1, [3]), (.goto (-50), 0, [24])]
def s510_77 : List E := [(.return_, 0, [])]
def cd510 : List (Nat × List E) := [(0, s510_0), (2, s510_2), (22, s510_22), (24, s510_24), (77, s510_77)]
theorem l510_0 : lkc cd510 0 = s510_0 := rfl
theorem l510_2 : lkc cd510 2 = s510_2 := rfl
theorem l510_22 : lkc cd510 22 = s510_22 := rfl
theorem l510_24 : lkc cd510 24 = s510_24 := rfl
theorem l510_77 : lkc cd510 77 = s510_77 := rfl
theorem k510 : chkM 510 4 true cd510 = true := by decide +kernel
/- Opener.command(III)V -/
def s511_0 : List E := [(.aload_n 0, 0, [0]), (.iconst 0, 0, []), (.putfield 248, 0, [4, 30, 3]), (.aload_n 0, 0, [0]), (.getfield 54, 22, [4, 14, 11, 1]), (.aload_n 0, 0, [0]), (.aload_n 0, 0, [0]), (.iconst 1, 1, []), (.invokevirtual 252, 0, [512, 4, 9, 52, 0, 0, 0]), (.invokevirtual 180, 0, [519, 5, 11, 97, 0, 0, 0, 10]), (.istore 4, 0, [4]), (.aload_n 0, 0, [0]), (.dup, 0, []), (.getfield 127, 0, [4, 26, 0]), (.iconst 1, 1, []), (.iadd, 0, []), (.putfield 127, 0, [4, 26, 0]), (.iload 4, 0, [4]), (.bipush 64, 64, []), (.idiv, 0, []), (.istore 5, 0, [5]), (.bipush 8, 8, []), (.getstatic 255, 8, [14, 81]), (.iload 5, 0, [5]), (.iaload, 0, []), (.imul, 0, []), (.iload 4, 0, [4]), (.bipush 8, 8, []), (.idiv, 0, []), (.bipush 8, 8, []), (.irem, 0, []), (.iadd, 0, []), (.istore 6, 0, [6]), (.bipush 8, 8, []), (.getstatic 258, 9, [15, 81]), (.iload 5, 0, [5]), (.iaload, 0, []), (.imul, 0, []), (.iload 4, 0, [4]), (.bipush 8, 8, []), (.irem, 0, []), (.iadd, 0, []), (.istore 7, 0, [7]), (.getstatic 261, 2, [8, 81]), (.iload 6, 0, [6]), (.iaload, 0, []), (.aload_n 0, 0, [0]), (.getstatic 264, 3, [9, 81]), (.iload 6, 0, [6]), (.iaload, 0, []), (.invokevirtual 115, 0, [493, 4, 9, 124, 0, 0, 0]), (.iadd, 0, []), (.istore 8, 0, [8]), (.getstatic 267, 4, [10, 81]), (.iload 7, 0, [7]), (.iaload, 0, []), (.aload_n 0, 0, [0]), (.getstatic 270, 5, [11, 81]), (.iload 7, 0, [7]), (.iaload, 0, []), (.invokevirtual 115, 0, [493, 4, 9, 124, 0, 0, 0]), (.iadd, 0, []), (.istore 9, 0, [9]), (.iload 8, 0, [8]), (.iload_n 1, 0, [1]), (.aload_n 0, 0, [0]), (.getfield 14, 1, [4, 2, 3, 1]), (.getfield 118, 0, [1, 1, 0]), (.isub, 0, []), (.if_icmp .le 10, 0, [133]), (.aload_n 0, 0, [0]), (.bipush 11, 11, []), (.invokevirtual 104, 0, [494, 4, 9, 147, 0, 23, 0]), (.athrow, 0, [])]
def s511_133 : List E := [(.iconst 0, 0, []), (.istore 10, 0, [10]), (.nop, 0, [136])]
def s511_136 : List E := [(.iload 10, 0, [10]), (.iload 8, 0, [8]), (.if_icmp .ge 13, 0, [153]), (.aload_n 0, 0, [0]), (.invokevirtual 273, 0, [513, 4, 9, 8, 0, 100]), (.iinc 10 1, 1, [10]), (.goto (-14), 0, [136])]
def s511_153 : List E := [(.aload_n 0, 0, [0]), (.getfield 14, 1, [4, 2, 3, 1]), (.getfield 118, 0, [1, 1, 0]), (.iload_n 1, 0, [1]), (.if_icmp .ne 4, 0, [165]), (.return_, 0, [])]
def s511_165 : List E := [(.iload 4, 0, [4]), (.sipush 128, 128, []), (.if_icmp .ge 12, 0, [182]), (.aload_n 0, 0, [0]), (.getfield 91, 36, [4, 24, 81, 1]), (.iconst 0, 0, []), (.iaload, 0, []), (.goto 17, 0, [196])]
def s511_182 : List E := [(.aload_n 0, 0, [0]), (.iload 9, 0, [9]), (.iconst 5, 5, []), (.invokestatic 214, 0, [0, 231, 0, 0, 0, 0]), (.iconst 2, 2, []), (.isub, 0, []), (.iload_n 2, 0, [2]), (.iload_n 3, 0, [3]), (.invokevirtual 276, 0, [514, 4, 9, 23, 0, 0, 0, 0, 0]), (.nop, 0, [196])]
def s511_196 : List E := [(.istore 10, 0, [10]), (.iload 10, 0, [10]), (.iconst 1, 1, []), (.if_icmp .lt 27, 0, [228]), (.iload 10, 0, [10]), (.aload_n 0, 0, [0]), (.getfield 14, 1, [4, 2, 3, 1]), (.getfield 118, 0, [1, 1, 0]), (.iconst 1, 1, []), (.aload_n 0, 0, [0]), (.getfield 147, 0, [4, 4, 0]), (.ishl, 0, []), (.bipush 16, 16, []), (.isub, 0, []), (.invokestatic 214, 0, [0, 231, 0, 0, 0, 0]), (.if_icmp .le 10, 0, [235]), (.nop, 0, [228])]
def s511_228 : List E := [(.aload_n 0, 0, [0]), (.bipush 12, 12, []), (.invokevirtual 104, 0, [494, 4, 9, 147, 0, 23, 0]), (.athrow, 0, [])]
def s511_235 : List E := [(.iload 9, 0, [9]), (.iload_n 1, 0, [1]), (.aload_n 0, 0, [0]), (.getfield 14, 1, [4, 2, 3, 1]), (.getfield 118, 0, [1, 1, 0]), (.isub, 0, []), (.if_icmp .le 10, 0, [256]), (.aload_n 0, 0, [0]), (.bipush 11, 11, []), (.invokevirtual 104, 0, [494, 4, 9, 147, 0, 23, 0]), (.athrow, 0, [])]
def s511_256 : List E := [(.aload_n 0, 0, [0]), (.getfield 248, 0, [4, 30, 3]), (.ifCond .eq 25, 0, [285]), (.aload_n 0, 0, [0]), (.getfield 91, 36, [4, 24, 81, 1]), (.iconst 0, 0, []), (.aload_n 0, 0, [0]), (.getfield 91, 36, [4, 24, 81, 1]), (.iconst 1, 1, []), (.iconst 3, 3, []), (.invokestatic 231, 0, [40, 184]), (.aload_n 0, 0, [0]), (.getfield 91, 36, [4, 24, 81, 1]), (.iconst 0, 0, []), (.iload 10, 0, [10]), (.iastore, 0, []), (.nop, 0, [285])]
def s511_285 : List E := [(.iconst 0, 0, []), (.istore 11, 0, [11]), (.nop, 0, [288])]
def s511_288 : List E := [(.iload 11, 0, [11]), (.iload 9, 0, [9]), (.if_icmp .ge 33, 0, [325]), (.aload_n 0, 0, [0]), (.getfield 14, 1, [4, 2, 3, 1]), (.aload_n 0, 0, [0]), (.getfield 14, 1, [4, 2, 3, 1]), (.aload_n 0, 0, [0]), (.getfield 14, 1, [4, 2, 3, 1]), (.getfield 118, 0, [1, 1, 0]), (.iload 10, 0, [10]), (.isub, 0, []), (.invokevirtual 111, 0, [114, 1, 3, 231, 0, 0, 0]), (.invokevirtual 280, 0, [113, 1, 3, 231, 0, 100, 0]), (.iinc 11 1, 1, [11]), (.goto (-34), 0, [288])]
def s511_325 : List E := [(.aload_n 0, 0, [0]), (.dup, 0, []), (.getfield 133, 0, [4, 28, 0]), (.iconst 1, 1, []), (.iadd, 0, []), (.putfield 133, 0, [4, 28, 0]), (.return_, 0, [])]
def cd511 : List (Nat × List E) := [(0, s511_0), (133, s511_133), (136, s511_136), (153, s511_153), (165, s511_165), (182, s511_182), (196, s511_196), (228, s511_228), (235, s511_235), (256, s511_256), (285, s511_285), (288, s511_288), (325, s511_325)]
theorem l511_0 : lkc cd511 0 = s511_0 := rfl
theorem l511_133 : lkc cd511 133 = s511_133 := rfl
theorem l511_136 : lkc cd511 136 = s511_136 := rfl
theorem l511_153 : lkc cd511 153 = s511_153 := rfl
theorem l511_165 : lkc cd511 165 = s511_165 := rfl
theorem l511_182 : lkc cd511 182 = s511_182 := rfl
theorem l511_196 : lkc cd511 196 = s511_196 := rfl
theorem l511_228 : lkc cd511 228 = s511_228 := rfl
theorem l511_235 : lkc cd511 235 = s511_235 := rfl
theorem l511_256 : lkc cd511 256 = s511_256 := rfl
theorem l511_285 : lkc cd511 285 = s511_285 := rfl
theorem l511_288 : lkc cd511 288 = s511_288 := rfl
theorem l511_325 : lkc cd511 325 = s511_325 := rfl
theorem k511 : chkM 511 4 true cd511 = true := by decide +kernel
/- Opener.thing(I)I -/
def s512_0 : List E := [(.aload_n 0, 0, [0]), (.getfield 20, 3, [4, 5, 81, 1]), (.iload_n 1, 0, [1]), (.iaload, 0, []), (.iconst 2, 2, []), (.if_icmp .ge 5, 0, [12]), (.iconst 0, 0, []), (.ireturn, 0, [])]
def s512_12 : List E := [(.aload_n 0, 0, [0]), (.getfield 30, 6, [4, 8, 81, 1]), (.iload_n 1, 0, [1]), (.iaload, 0, []), (.ifCond .ne 93, 0, [111]), (.aload_n 0, 0, [0]), (.getfield 38, 7, [4, 9, 11, 1]), (.aload_n 0, 0, [0]), (.iload_n 1, 0, [1]), (.invokevirtual 180, 0, [519, 5, 11, 30, 0, 0, 0, 10]), (.istore_n 2, 0, [2]), (.iload_n 2, 0, [2]), (.ifCond .ne 12, 0, [44]), (.aload_n 0, 0, [0]), (.getfield 27, 5, [4, 7, 81, 1]), (.iload_n 1, 0, [1]), (.iaload, 0, []), (.goto 29, 0, [70])]
def s512_44 : List E := [(.iload_n 2, 0, [2]), (.iconst 1, 1, []), (.if_icmp .ne 21, 0, [67]), (.aload_n 0, 0, [0]), (.getfield 24, 4, [4, 6, 81, 1]), (.iload_n 1, 0, [1]), (.iaload, 0, []), (.iconst 1, 1, []), (.iadd, 0, []), (.aload_n 0, 0, [0]), (.getfield 20, 3, [4, 5, 81, 1]), (.iload_n 1, 0, [1]), (.iaload, 0, []), (.irem, 0, []), (.goto 6, 0, [70])]
def s512_67 : List E := [(.iload_n 2, 0, [2]), (.iconst 2, 2, []), (.isub, 0, []), (.nop, 0, [70])]
def s512_70 : List E := [(.istore_n 3, 0, [3]), (.aload_n 0, 0, [0]), (.getfield 27, 5, [4, 7, 81, 1]), (.iload_n 1, 0, [1]), (.aload_n 0, 0, [0]), (.getfield 24, 4, [4, 6, 81, 1]), (.iload_n 1, 0, [1]), (.iaload, 0, []), (.iastore, 0, []), (.aload_n 0, 0, [0]), (.getfield 24, 4, [4, 6, 81, 1]), (.iload_n 1, 0, [1]), (.iload_n 3, 0, [3]), (.iastore, 0, []), (.aload_n 0, 0, [0]), (.getfield 30, 6, [4, 8, 81, 1]), (.iload_n 1, 0, [1]), (.aload_n 0, 0, [0]), (.iload_n 1, 0, [1]), (.invokevirtual 177, 0, [508, 4, 9, 8, 0, 0, 0]), (.iastore, 0, []), (.aload_n 0, 0, [0]), (.dup, 0, []), (.getfield 136, 0, [4, 29, 0]), (.iconst 1, 1, []), (.iadd, 0, []), (.putfield 136, 0, [4, 29, 0]), (.nop, 0, [111])]
def s512_111 : List E := [(.aload_n 0, 0, [0]), (.getfield 30, 6, [4, 8, 81, 1]), (.iload_n 1, 0, [1]), (.dup2, 0, []), (.iaload, 0, []), (.iconst 1, 1, []), (.isub, 0, []), (.iastore, 0, []), (.aload_n 0, 0, [0]), (.getfield 24, 4, [4, 6, 81, 1]), (.iload_n 1, 0, [1]), (.iaload, 0, []), (.ireturn, 0, [])]
def cd512 : List (Nat × List E) := [(0, s512_0), (12, s512_12), (44, s512_44), (67, s512_67), (70, s512_70), (111, s512_111)]
theorem l512_0 : lkc cd512 0 = s512_0 := rfl
theorem l512_12 : lkc cd512 12 = s512_12 := rfl
theorem l512_44 : lkc cd512 44 = s512_44 := rfl
theorem l512_67 : lkc cd512 67 = s512_67 := rfl
theorem l512_70 : lkc cd512 70 = s512_70 := rfl
theorem l512_111 : lkc cd512 111 = s512_111 := rfl
theorem k512 : chkM 512 4 true cd512 = true := by decide +kernel
/- Opener.distance(III)I -/
def s514_0 : List E := [(.aload_n 0, 0, [0]), (.iconst 2, 2, []), (.invokevirtual 252, 0, [512, 4, 9, 8, 0, 0, 0]), (.istore 4, 0, [4]), (.aload_n 0, 0, [0]), (.getfield 57, 25, [4, 15, 11, 1]), (.aload_n 0, 0, [0]), (.aload_n 0, 0, [0]), (.getfield 63, 29, [4, 17, 81, 1]), (.iconst 4, 4, []), (.iload 4, 0, [4]), (.imul, 0, []), (.iload_n 1, 0, [1]), (.iadd, 0, []), (.iaload, 0, []), (.invokevirtual 180, 0, [519, 5, 11, 53, 0, 0, 0, 10]), (.istore 5, 0, [5]), (.aload_n 0, 0, [0]), (.iload 5, 0, [5]), (.ifCond .le 7, 0, [38]), (.iconst 1, 1, []), (.goto 4, 0, [39])]
def s514_38 : List E := [(.iconst 0, 0, []), (.nop, 0, [39])]
def s514_39 : List E := [(.putfield 248, 0, [4, 30, 3]), (.iload 5, 0, [5]), (.iconst 4, 4, []), (.if_icmp .ge 11, 0, [56]), (.aload_n 0, 0, [0]), (.getfield 91, 36, [4, 24, 81, 1]), (.iload 5, 0, [5]), (.iaload, 0, []), (.ireturn, 0, [])]
def s514_56 : List E := [(.iload 5, 0, [5]), (.bipush 16, 16, []), (.if_icmp .ge 54, 0, [114]), (.iload 5, 0, [5]), (.iconst 4, 4, []), (.isub, 0, []), (.bipush 6, 6, []), (.irem, 0, []), (.istore 6, 0, [6]), (.iload 6, 0, [6]), (.iconst 2, 2, []), (.idiv, 0, []), (.iconst 1, 1, []), (.iadd, 0, []), (.istore 7, 0, [7]), (.aload_n 0, 0, [0]), (.getfield 91, 36, [4, 24, 81, 1]), (.iload 5, 0, [5]), (.bipush 10, 10, []), (.if_icmp .ge 7, 0, [95]), (.iconst 0, 0, []), (.goto 4, 0, [96])]
def s514_95 : List E := [(.iconst 1, 1, []), (.nop, 0, [96])]
def s514_96 : List E := [(.iaload, 0, []), (.iload 6, 0, [6]), (.iconst 2, 2, []), (.irem, 0, []), (.ifCond .ne 9, 0, [110]), (.iload 7, 0, [7]), (.ineg, 0, []), (.goto 5, 0, [112])]
def s514_110 : List E := [(.iload 7, 0, [7]), (.nop, 0, [112])]
def s514_112 : List E := [(.iadd, 0, []), (.ireturn, 0, [])]
def s514_114 : List E := [(.iload 5, 0, [5]), (.bipush 16, 16, []), (.iload_n 3, 0, [3]), (.iadd, 0, []), (.if_icmp .ge 9, 0, [129]), (.iload 5, 0, [5]), (.bipush 15, 15, []), (.isub, 0, []), (.ireturn, 0, [])]
def s514_129 : List E := [(.iload 5, 0, [5]), (.bipush 16, 16, []), (.isub, 0, []), (.iload_n 3, 0, [3]), (.isub, 0, []), (.istore 6, 0, [6]), (.iconst 1, 1, []), (.iload 6, 0, [6]), (.iload_n 2, 0, [2]), (.iconst 1, 1, []), (.iadd, 0, []), (.ishr, 0, []), (.iadd, 0, []), (.istore 7, 0, [7]), (.iload 6, 0, [6]), (.iload_n 2, 0, [2]), (.ishr, 0, []), (.istore 8, 0, [8]), (.iconst 2, 2, []), (.iload 8, 0, [8]), (.iconst 2, 2, []), (.irem, 0, []), (.iadd, 0, []), (.iload 7, 0, [7]), (.ishl, 0, []), (.iconst 4, 4, []), (.isub, 0, []), (.istore 9, 0, [9]), (.iload 9, 0, [9]), (.aload_n 0, 0, [0]), (.iload 7, 0, [7]), (.invokevirtual 115, 0, [493, 4, 9, 80, 0, 0, 0]), (.iadd, 0, []), (.iload_n 2, 0, [2]), (.ishl, 0, []), (.iload 6, 0, [6]), (.iconst 1, 1, []), (.iload_n 2, 0, [2]), (.ishl, 0, []), (.irem, 0, []), (.iadd, 0, []), (.iload_n 3, 0, [3]), (.iadd, 0, []), (.iconst 1, 1, []), (.iadd, 0, []), (.ireturn, 0, [])]
def cd514 : List (Nat × List E) := [(0, s514_0), (38, s514_38), (39, s514_39), (56, s514_56), (95, s514_95), (96, s514_96), (110, s514_110), (112, s514_112), (114, s514_114), (129, s514_129)]
theorem l514_0 : lkc cd514 0 = s514_0 := rfl
theorem l514_38 : lkc cd514 38 = s514_38 := rfl
theorem l514_39 : lkc cd514 39 = s514_39 := rfl
theorem l514_56 : lkc cd514 56 = s514_56 := rfl
theorem l514_95 : lkc cd514 95 = s514_95 := rfl
theorem l514_96 : lkc cd514 96 = s514_96 := rfl
theorem l514_110 : lkc cd514 110 = s514_110 := rfl
theorem l514_112 : lkc cd514 112 = s514_112 := rfl
theorem l514_114 : lkc cd514 114 = s514_114 := rfl
theorem l514_129 : lkc cd514 129 = s514_129 := rfl
theorem k514 : chkM 514 4 true cd514 = true := by decide +kernel
/- Maker.<init>()V -/
def s525_0 : List E := [(.aload_n 0, 0, [0]), (.invokespecial 3, 0, [67]), (.aload_n 0, 0, [0]), (.new 9, 0, [7, 15, 3]), (.dup, 0, []), (.invokespecial 11, 0, [551, 7, 15, 47, 0, 100]), (.putfield 12, 0, [6, 0, 13]), (.aload_n 0, 0, [0]), (.sipush 4096, 4096, []), (.newarray .int, 0, [40, 81]), (.putfield 18, 0, [6, 2, 46]), (.aload_n 0, 0, [0]), (.sipush 16000, 16000, []), (.newarray .int, 0, [40, 81]), (.putfield 22, 0, [6, 3, 46]), (.aload_n 0, 0, [0]), (.iconst 4, 4, []), (.anewarray 25, 0, [47, 95]), (.dup, 0, []), (.iconst 0, 0, []), (.new 25, 0, [8, 17, 5]), (.dup, 0, []), (.sipush 256, 256, []), (.invokespecial 27, 0, [556, 8, 17, 46, 0, 100, 0]), (.aastore, 0, [47, 8]), (.dup, 0, []), (.iconst 1, 1, []), (.new 25, 0, [8, 17, 5]), (.dup, 0, []), (.sipush 256, 256, []), (.invokespecial 27, 0, [556, 8, 17, 46, 0, 100, 0]), (.aastore, 0, [47, 8]), (.dup, 0, []), (.iconst 2, 2, []), (.new 25, 0, [8, 17, 5]), (.dup, 0, []), (.sipush 256, 256, []), (.invokespecial 27, 0, [556, 8, 17, 46, 0, 100, 0]), (.aastore, 0, [47, 8]), (.dup, 0, []), (.iconst 3, 3, []), (.new 25, 0, [8, 17, 5]), (.dup, 0, []), (.sipush 256, 256, []), (.invokespecial 27, 0, [556, 8, 17, 46, 0, 100, 0]), (.aastore, 0, [47, 8]), (.putfield 30, 0, [6, 4, 53]), (.aload_n 0, 0, [0]), (.new 25, 0, [8, 17, 5]), (.dup, 0, []), (.sipush 704, 704, []), (.invokespecial 27, 0, [556, 8, 17, 46, 0, 100, 0]), (.putfield 34, 0, [6, 5, 14]), (.aload_n 0, 0, [0]), (.new 25, 0, [8, 17, 5]), (.dup, 0, []), (.bipush 64, 64, []), (.invokespecial 27, 0, [556, 8, 17, 46, 0, 100, 0]), (.putfield 38, 0, [6, 6, 14]), (.aload_n 0, 0, [0]), (.new 25, 0, [8, 17, 5]), (.dup, 0, []), (.iconst 4, 4, []), (.invokespecial 27, 0, [556, 8, 17, 46, 0, 100, 0]), (.putfield 41, 0, [6, 7, 14]), (.aload_n 0, 0, [0]), (.new 25, 0, [8, 17, 5]), (.dup, 0, []), (.bipush 18, 18, []), (.invokespecial 27, 0, [556, 8, 17, 46, 0, 100, 0]), (.putfield 44, 0, [6, 8, 14]), (.aload_n 0, 0, [0]), (.sipush 704, 704, []), (.newarray .int, 0, [40, 81]), (.putfield 47, 0, [6, 9, 46]), (.aload_n 0, 0, [0]), (.sipush 4096, 4096, []), (.newarray .int, 0, [40, 81]), (.putfield 50, 0, [6, 11, 46]), (.aload_n 0, 0, [0]), (.sipush 4096, 4096, []), (.newarray .int, 0, [40, 81]), (.putfield 53, 0, [6, 12, 46]), (.aload_n 0, 0, [0]), (.sipush 4096, 4096, []), (.newarray .int, 0, [40, 81]), (.putfield 56, 0, [6, 13, 46]), (.aload_n 0, 0, [0]), (.sipush 4096, 4096, []), (.newarray .int, 0, [40, 81]), (.putfield 59, 0, [6, 14, 46]), (.aload_n 0, 0, [0]), (.sipush 704, 704, []), (.newarray .int, 0, [40, 81]), (.putfield 62, 0, [6, 16, 46]), (.aload_n 0, 0, [0]), (.sipush 1408, 1408, []), (.newarray .int, 0, [40, 81]), (.putfield 65, 0, [6, 17, 46]), (.aload_n 0, 0, [0]), (.sipush 1408, 1408, []), (.newarray .int, 0, [40, 81]), (.putfield 68, 0, [6, 18, 46]), (.aload_n 0, 0, [0]), (.sipush 704, 704, []), (.newarray .int, 0, [40, 81]), (.putfield 71, 0, [6, 19, 46]), (.aload_n 0, 0, [0]), (.invokestatic 74, 0, [520, 8, 0, 54]), (.putfield 80, 0, [6, 20, 54]), (.return_, 0, [])]
def cd525 : List (Nat × List E) := [(0, s525_0)]
theorem l525_0 : lkc cd525 0 = s525_0 := rfl
theorem k525 : chkM 525 6 false cd525 = true := by decide +kernel
/- Maker.squeeze(LFontHouse$Bytes;LFontHouse$Bytes;I)Z -/
def s526_0 : List E := [(.aload_n 0, 0, [0]), (.aload_n 1, 0, [1]), (.putfield 84, 0, [6, 1, 7]), (.aload_n 0, 0, [0]), (.getfield 12, 1, [6, 0, 15, 1]), (.aload_n 2, 0, [2]), (.invokevirtual 88, 0, [552, 7, 15, 267, 0, 100, 7]), (.aload_n 0, 0, [0]), (.getfield 12, 1, [6, 0, 15, 1]), (.iconst 0, 0, []), (.iconst 1, 1, []), (.invokevirtual 92, 0, [553, 7, 15, 264, 0, 100, 0, 0]), (.iload_n 3, 0, [3]), (.ifCond .le 7, 0, [30]), (.aload_n 0, 0, [0]), (.invokevirtual 96, 0, [527, 6, 13, 202, 0, 100]), (.nop, 0, [30])]
def s526_30 : List E := [(.iconst 4, 4, []), (.istore 4, 0, [4]), (.iconst 0, 0, []), (.istore 5, 0, [5]), (.nop, 0, [36])]
def s526_36 : List E := [(.iload 5, 0, [5]), (.aload_n 1, 0, [1]), (.getfield 99, 0, [1, 1, 0]), (.if_icmp .ge 117, 0, [159]), (.aload_n 1, 0, [1]), (.getfield 99, 0, [1, 1, 0]), (.iload 5, 0, [5]), (.sipush 4096, 4096, []), (.iadd, 0, []), (.invokestatic 105, 0, [0, 287, 0, 0, 0, 0]), (.istore 6, 0, [6]), (.aload_n 0, 0, [0]), (.getfield 12, 1, [6, 0, 15, 1]), (.iconst 0, 0, []), (.iconst 3, 3, []), (.invokevirtual 92, 0, [553, 7, 15, 264, 0, 100, 0, 0]), (.aload_n 0, 0, [0]), (.getfield 12, 1, [6, 0, 15, 1]), (.iload 6, 0, [6]), (.iload 5, 0, [5]), (.isub, 0, []), (.iconst 1, 1, []), (.isub, 0, []), (.bipush 16, 16, []), (.invokevirtual 92, 0, [553, 7, 15, 264, 0, 100, 0, 0]), (.aload_n 0, 0, [0]), (.getfield 12, 1, [6, 0, 15, 1]), (.iload_n 3, 0, [3]), (.ifCond .ne 7, 0, [97]), (.iconst 1, 1, []), (.goto 4, 0, [98])]
def s526_97 : List E := [(.iconst 0, 0, []), (.nop, 0, [98])]
def s526_98 : List E := [(.iconst 1, 1, []), (.invokevirtual 92, 0, [553, 7, 15, 264, 0, 100, 0, 0]), (.iload_n 3, 0, [3]), (.ifCond .ne 25, 0, [128]), (.aload_n 0, 0, [0]), (.getfield 12, 1, [6, 0, 15, 1]), (.invokevirtual 111, 0, [554, 7, 15, 244, 0, 100]), (.aload_n 2, 0, [2]), (.aload_n 1, 0, [1]), (.iload 5, 0, [5]), (.iload 6, 0, [6]), (.iload 5, 0, [5]), (.isub, 0, []), (.invokevirtual 114, 0, [115, 1, 3, 225, 0, 100, 0, 0, 7]), (.goto 25, 0, [150])]
def s526_128 : List E := [(.aload_n 0, 0, [0]), (.iload 5, 0, [5]), (.iload 6, 0, [6]), (.iload_n 3, 0, [3]), (.iconst 2, 2, []), (.if_icmp .ne 7, 0, [142]), (.iconst 1, 1, []), (.goto 4, 0, [143])]
def s526_142 : List E := [(.iconst 0, 0, []), (.nop, 0, [143])]
def s526_143 : List E := [(.iload 4, 0, [4]), (.invokevirtual 118, 0, [529, 6, 13, 8, 0, 0, 0, 3, 0, 0]), (.istore 4, 0, [4]), (.nop, 0, [150])]
def s526_150 : List E := [(.iinc 5 4096, 4096, [5]), (.goto (-120), 0, [36])]
def s526_159 : List E := [(.aload_n 0, 0, [0]), (.getfield 12, 1, [6, 0, 15, 1]), (.iconst 3, 3, []), (.iconst 2, 2, []), (.invokevirtual 92, 0, [553, 7, 15, 264, 0, 100, 0, 0]), (.aload_n 0, 0, [0]), (.getfield 12, 1, [6, 0, 15, 1]), (.invokevirtual 111, 0, [554, 7, 15, 244, 0, 100]), (.aload_n 2, 0, [2]), (.getfield 122, 0, [1, 2, 3]), (.ifCond .ne 7, 0, [186]), (.iconst 1, 1, []), (.goto 4, 0, [187])]
def s526_186 : List E := [(.iconst 0, 0, []), (.nop, 0, [187])]
def s526_187 : List E := [(.ireturn, 0, [1])]
def cd526 : List (Nat × List E) := [(0, s526_0), (30, s526_30), (36, s526_36), (97, s526_97), (98, s526_98), (128, s526_128), (142, s526_142), (143, s526_143), (150, s526_150), (159, s526_159), (186, s526_186), (187, s526_187)]
theorem l526_0 : lkc cd526 0 = s526_0 := rfl
theorem l526_30 : lkc cd526 30 = s526_30 := rfl
theorem l526_36 : lkc cd526 36 = s526_36 := rfl
theorem l526_97 : lkc cd526 97 = s526_97 := rfl
theorem l526_98 : lkc cd526 98 = s526_98 := rfl
theorem l526_128 : lkc cd526 128 = s526_128 := rfl
theorem l526_142 : lkc cd526 142 = s526_142 := rfl
theorem l526_143 : lkc cd526 143 = s526_143 := rfl
theorem l526_150 : lkc cd526 150 = s526_150 := rfl
theorem l526_159 : lkc cd526 159 = s526_159 := rfl
theorem l526_186 : lkc cd526 186 = s526_186 := rfl
theorem l526_187 : lkc cd526 187 = s526_187 := rfl
theorem k526 : chkM 526 6 true cd526 = true := by decide +kernel
/- Maker.chain()V -/
def s527_0 : List E := [(.iconst 0, 0, []), (.istore_n 1, 0, [1]), (.nop, 0, [2])]
def s527_2 : List E := [(.iload_n 1, 0, [1]), (.aload_n 0, 0, [0]), (.getfield 18, 2, [6, 2, 81, 1]), (.arraylength, 0, [40]), (.if_icmp .ge 16, 0, [24]), (.aload_n 0, 0, [0]), (.getfield 18, 2, [6, 2, 81, 1]), (.iload_n 1, 0, [1]), (.iconst (-1), -1, []), (.iastore, 0, []), (.iinc 1 1, 1, [1]), (.goto (-19), 0, [2])]
def s527_24 : List E := [(.iconst 0, 0, []), (.istore_n 1, 0, [1]), (.nop, 0, [26])]
def s527_26 : List E := [(.iload_n 1, 0, [1]), (.iconst 4, 4, []), (.iadd, 0, []), (.aload_n 0, 0, [0]), (.getfield 84, 0, [6, 1, 7]), (.getfield 99, 0, [1, 1, 0]), (.if_icmp .gt 40, 0, [76]), (.aload_n 0, 0, [0]), (.iload_n 1, 0, [1]), (.invokevirtual 130, 0, [528, 6, 13, 8, 0, 0, 0]), (.ldc 133, -1640531535, []), (.imul, 0, [1]), (.bipush 20, 20, []), (.iushr, 0, []), (.istore_n 2, 0, [2]), (.aload_n 0, 0, [0]), (.getfield 22, 3, [6, 3, 81, 1]), (.iload_n 1, 0, [1]), (.aload_n 0, 0, [0]), (.getfield 18, 2, [6, 2, 81, 1]), (.iload_n 2, 0, [2]), (.iaload, 0, []), (.iastore, 0, []), (.aload_n 0, 0, [0]), (.getfield 18, 2, [6, 2, 81, 1]), (.iload_n 2, 0, [2]), (.iload_n 1, 0, [1]), (.iastore, 0, []), (.iinc 1 1, 1, [1]), (.goto (-47), 0, [26])]
def s527_76 : List E := [(.return_, 0, [])]
def cd527 : List (Nat × List E) := [(0, s527_0), (2, s527_2), (24, s527_24), (26, s527_26), (76, s527_76)]
theorem l527_0 : lkc cd527 0 = s527_0 := rfl
theorem l527_2 : lkc cd527 2 = s527_2 := rfl
theorem l527_24 : lkc cd527 24 = s527_24 := rfl
theorem l527_26 : lkc cd527 26 = s527_26 := rfl
theorem l527_76 : lkc cd527 76 = s527_76 := rfl
theorem k527 : chkM 527 6 true cd527 = true := by decide +kernel
/- Maker.four(I)I -/
def s528_0 : List E := [(.aload_n 0, 0, [0]), (.getfield 84, 0, [6, 1, 7]), (.iload_n 1, 0, [1]), (.invokevirtual 126, 0, [117, 1, 3, 8, 0, 0, 0]), (.ireturn, 0, [])]
def cd528 : List (Nat × List E) := [(0, s528_0)]
theorem l528_0 : lkc cd528 0 = s528_0 := rfl
theorem k528 : chkM 528 6 true cd528 = true := by decide +kernel
/- Maker.piece(IIZI)I -/
def s529_0 : List E := [(.aload_n 0, 0, [0]), (.iload_n 1, 0, [1]), (.iload_n 2, 0, [2]), (.invokevirtual 178, 0, [530, 6, 13, 167, 0, 100, 0, 0]), (.iconst 0, 0, []), (.istore 5, 0, [5]), (.nop, 0, [9])]
def s529_9 : List E := [(.iload 5, 0, [5]), (.aload_n 0, 0, [0]), (.getfield 30, 4, [6, 4, 95, 1]), (.arraylength, 0, [47]), (.if_icmp .ge 19, 0, [35]), (.aload_n 0, 0, [0]), (.getfield 30, 4, [6, 4, 95, 1]), (.iload 5, 0, [5]), (.aaload, 0, [47, 16]), (.invokevirtual 181, 0, [557, 8, 17, 259, 0, 100]), (.iinc 5 1, 1, [5]), (.goto (-23), 0, [9])]
def s529_35 : List E := [(.aload_n 0, 0, [0]), (.getfield 34, 21, [6, 5, 17, 1]), (.invokevirtual 181, 0, [557, 8, 17, 259, 0, 100]), (.aload_n 0, 0, [0]), (.getfield 38, 25, [6, 6, 17, 1]), (.invokevirtual 181, 0, [557, 8, 17, 259, 0, 100]), (.iload 4, 0, [4]), (.istore 5, 0, [5]), (.iload_n 1, 0, [1]), (.istore 6, 0, [6]), (.iconst 0, 0, []), (.istore 7, 0, [7]), (.nop, 0, [59])]
def s529_59 : List E := [(.iload 7, 0, [7]), (.aload_n 0, 0, [0]), (.getfield 137, 0, [6, 15, 0]), (.if_icmp .ge 198, 0, [263]), (.iconst 0, 0, []), (.istore 8, 0, [8]), (.nop, 0, [71])]
def s529_71 : List E := [(.iload 8, 0, [8]), (.aload_n 0, 0, [0]), (.getfield 50, 38, [6, 11, 81, 1]), (.iload 7, 0, [7]), (.iaload, 0, []), (.if_icmp .ge 36, 0, [116]), (.aload_n 0, 0, [0]), (.iload_n 3, 0, [3]), (.iload 6, 0, [6]), (.invokevirtual 184, 0, [533, 6, 13, 37, 0, 14, 0, 3]), (.getfield 188, 1, [8, 0, 81, 1]), (.aload_n 0, 0, [0]), (.getfield 84, 0, [6, 1, 7]), (.iload 6, 0, [6]), (.invokevirtual 134, 0, [114, 1, 3, 259, 0, 0, 0]), (.dup2, 0, []), (.iaload, 0, []), (.iconst 1, 1, []), (.iadd, 0, []), (.iastore, 0, []), (.iinc 6 1, 1, [6]), (.iinc 8 1, 1, [8]), (.goto (-42), 0, [71])]
def s529_116 : List E := [(.aload_n 0, 0, [0]), (.getfield 59, 41, [6, 14, 81, 1]), (.iload 7, 0, [7]), (.aload_n 0, 0, [0]), (.getfield 50, 38, [6, 11, 81, 1]), (.iload 7, 0, [7]), (.iaload, 0, []), (.aload_n 0, 0, [0]), (.getfield 53, 39, [6, 12, 81, 1]), (.iload 7, 0, [7]), (.iaload, 0, []), (.aload_n 0, 0, [0]), (.getfield 53, 39, [6, 12, 81, 1]), (.iload 7, 0, [7]), (.iaload, 0, []), (.ifCond .le 19, 0, [162]), (.aload_n 0, 0, [0]), (.getfield 56, 40, [6, 13, 81, 1]), (.iload 7, 0, [7]), (.iaload, 0, []), (.iload 5, 0, [5]), (.if_icmp .ne 7, 0, [162]), (.iconst 1, 1, []), (.goto 4, 0, [163])]
def s529_162 : List E := [(.iconst 0, 0, []), (.nop, 0, [163])]
def s529_163 : List E := [(.invokestatic 191, 0, [534, 233, 0, 0, 3, 0, 0]), (.iastore, 0, []), (.aload_n 0, 0, [0]), (.getfield 34, 21, [6, 5, 17, 1]), (.getfield 188, 1, [8, 0, 81, 1]), (.aload_n 0, 0, [0]), (.getfield 59, 41, [6, 14, 81, 1]), (.iload 7, 0, [7]), (.iaload, 0, []), (.dup2, 0, []), (.iaload, 0, []), (.iconst 1, 1, []), (.iadd, 0, []), (.iastore, 0, []), (.iload 6, 0, [6]), (.aload_n 0, 0, [0]), (.getfield 53, 39, [6, 12, 81, 1]), (.iload 7, 0, [7]), (.iaload, 0, []), (.iadd, 0, []), (.istore 6, 0, [6]), (.aload_n 0, 0, [0]), (.getfield 53, 39, [6, 12, 81, 1]), (.iload 7, 0, [7]), (.iaload, 0, []), (.ifCond .ne 6, 0, [211]), (.goto 49, 0, [257])]
def s529_211 : List E := [(.aload_n 0, 0, [0]), (.getfield 59, 41, [6, 14, 81, 1]), (.iload 7, 0, [7]), (.iaload, 0, []), (.sipush 128, 128, []), (.if_icmp .lt 27, 0, [248]), (.aload_n 0, 0, [0]), (.getfield 38, 25, [6, 6, 17, 1]), (.getfield 188, 1, [8, 0, 81, 1]), (.aload_n 0, 0, [0]), (.getfield 56, 40, [6, 13, 81, 1]), (.iload 7, 0, [7]), (.iaload, 0, []), (.iload 5, 0, [5]), (.invokestatic 195, 0, [537, 217, 0, 0, 0, 0]), (.dup2, 0, []), (.iaload, 0, []), (.iconst 1, 1, []), (.iadd, 0, []), (.iastore, 0, []), (.nop, 0, [248])]
def s529_248 : List E := [(.aload_n 0, 0, [0]), (.getfield 56, 40, [6, 13, 81, 1]), (.iload 7, 0, [7]), (.iaload, 0, []), (.istore 5, 0, [5]), (.nop, 0, [257])]
def s529_257 : List E := [(.iinc 7 1, 1, [7]), (.goto (-201), 0, [59])]
def s529_263 : List E := [(.aload_n 0, 0, [0]), (.getfield 12, 1, [6, 0, 15, 1]), (.iconst 0, 0, []), (.bipush 9, 9, []), (.invokevirtual 92, 0, [553, 7, 15, 236, 0, 100, 0, 0]), (.aload_n 0, 0, [0]), (.getfield 12, 1, [6, 0, 15, 1]), (.iload_n 3, 0, [3]), (.ifCond .eq 7, 0, [285]), (.iconst 2, 2, []), (.goto 4, 0, [286])]
def s529_285 : List E := [(.iconst 0, 0, []), (.nop, 0, [286])]
def s529_286 : List E := [(.iconst 2, 2, []), (.invokevirtual 92, 0, [553, 7, 15, 236, 0, 100, 0, 0]), (.iload_n 3, 0, [3]), (.ifCond .eq 10, 0, [301]), (.aload_n 0, 0, [0]), (.invokevirtual 198, 0, [539, 6, 13, 124, 0, 100]), (.goto 12, 0, [310])]
def s529_301 : List E := [(.aload_n 0, 0, [0]), (.getfield 12, 1, [6, 0, 15, 1]), (.iconst 0, 0, []), (.iconst 1, 1, []), (.invokevirtual 92, 0, [553, 7, 15, 236, 0, 100, 0, 0]), (.nop, 0, [310])]
def s529_310 : List E := [(.aload_n 0, 0, [0]), (.getfield 12, 1, [6, 0, 15, 1]), (.iconst 0, 0, []), (.iconst 1, 1, []), (.invokevirtual 92, 0, [553, 7, 15, 236, 0, 100, 0, 0]), (.iconst 0, 0, []), (.istore 7, 0, [7]), (.nop, 0, [322])]
def s529_322 : List E := [(.iload 7, 0, [7]), (.iload_n 3, 0, [3]), (.ifCond .eq 7, 0, [332]), (.iconst 4, 4, []), (.goto 4, 0, [333])]
def s529_332 : List E := [(.iconst 1, 1, []), (.nop, 0, [333])]
def s529_333 : List E := [(.if_icmp .ge 20, 0, [353]), (.aload_n 0, 0, [0]), (.aload_n 0, 0, [0]), (.getfield 30, 4, [6, 4, 95, 1]), (.iload 7, 0, [7]), (.aaload, 0, [47, 16]), (.invokevirtual 201, 0, [540, 6, 13, 145, 0, 100, 14]), (.iinc 7 1, 1, [7]), (.goto (-28), 0, [322])]
def s529_353 : List E := [(.aload_n 0, 0, [0]), (.aload_n 0, 0, [0]), (.getfield 34, 21, [6, 5, 17, 1]), (.invokevirtual 201, 0, [540, 6, 13, 145, 0, 100, 14]), (.aload_n 0, 0, [0]), (.aload_n 0, 0, [0]), (.getfield 38, 25, [6, 6, 17, 1]), (.invokevirtual 201, 0, [540, 6, 13, 145, 0, 100, 14]), (.aload_n 0, 0, [0]), (.iload_n 1, 0, [1]), (.iload_n 3, 0, [3]), (.iload 4, 0, [4]), (.invokevirtual 205, 0, [549, 6, 13, 8, 0, 100, 0, 3, 0]), (.iload 5, 0, [5]), (.ireturn, 0, [])]
def cd529 : List (Nat × List E) := [(0, s529_0), (9, s529_9), (35, s529_35), (59, s529_59), (71, s529_71), (116, s529_116), (162, s529_162), (163, s529_163), (211, s529_211), (248, s529_248), (257, s529_257), (263, s529_263), (285, s529_285), (286, s529_286), (301, s529_301), (310, s529_310), (322, s529_322), (332, s529_332), (333, s529_333), (353, s529_353)]
theorem l529_0 : lkc cd529 0 = s529_0 := rfl
theorem l529_9 : lkc cd529 9 = s529_9 := rfl
theorem l529_35 : lkc cd529 35 = s529_35 := rfl
theorem l529_59 : lkc cd529 59 = s529_59 := rfl
theorem l529_71 : lkc cd529 71 = s529_71 := rfl
theorem l529_116 : lkc cd529 116 = s529_116 := rfl
theorem l529_162 : lkc cd529 162 = s529_162 := rfl
theorem l529_163 : lkc cd529 163 = s529_163 := rfl
theorem l529_211 : lkc cd529 211 = s529_211 := rfl
theorem l529_248 : lkc cd529 248 = s529_248 := rfl
theorem l529_257 : lkc cd529 257 = s529_257 := rfl
theorem l529_263 : lkc cd529 263 = s529_263 := rfl
theorem l529_285 : lkc cd529 285 = s529_285 := rfl
theorem l529_286 : lkc cd529 286 = s529_286 := rfl
theorem l529_301 : lkc cd529 301 = s529_301 := rfl
theorem l529_310 : lkc cd529 310 = s529_310 := rfl
theorem l529_322 : lkc cd529 322 = s529_322 := rfl
theorem l529_332 : lkc cd529 332 = s529_332 := rfl
theorem l529_333 : lkc cd529 333 = s529_333 := rfl
theorem l529_353 : lkc cd529 353 = s529_353 := rfl
theorem k529 : chkM 529 6 true cd529 = true := by decide +kernel
