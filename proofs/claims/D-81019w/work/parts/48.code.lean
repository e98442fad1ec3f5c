set_option maxRecDepth 100000
/- FontHouseModel.tParts()Z -/
def s466_0 : List E := [(.iconst 1, 1, []), (.istore_n 1, 0, [1]), (.nop, 0, [2])]
def s466_2 : List E := [(.iload_n 1, 0, [1]), (.ifCond .eq 295, 0, [298]), (.aload_n 0, 0, [0]), (.getfield 817, 0, [16, 76, 0]), (.bipush 16, 16, []), (.if_icmp .eq 12, 0, [24]), (.aload_n 0, 0, [0]), (.iconst 4, 4, []), (.iconst 4, 4, []), (.invokevirtual 1210, 0, [458, 16, 33, 72, 0, 3, 0, 0]), (.ifCond .ne 5, 0, [26]), (.nop, 0, [24])]
def s466_24 : List E := [(.iconst 0, 0, []), (.ireturn, 0, [1])]
def s466_26 : List E := [(.aload_n 0, 0, [0]), (.iconst 4, 4, []), (.invokevirtual 1216, 0, [460, 16, 33, 52, 0, 0, 0]), (.istore_n 2, 0, [2]), (.aload_n 0, 0, [0]), (.iconst 4, 4, []), (.invokevirtual 1216, 0, [460, 16, 33, 52, 0, 0, 0]), (.istore_n 3, 0, [3]), (.iload_n 2, 0, [2]), (.sipush 200, 200, []), (.iand, 0, []), (.istore 4, 0, [4]), (.iload_n 2, 0, [2]), (.iconst 1, 1, []), (.iand, 0, []), (.ifCond .le 7, 0, [55]), (.iconst 1, 1, []), (.goto 4, 0, [56])]
def s466_55 : List E := [(.iconst 0, 0, []), (.nop, 0, [56])]
def s466_56 : List E := [(.istore 5, 0, [5]), (.iload 4, 0, [4]), (.bipush 8, 8, []), (.if_icmp .ne 7, 0, [69]), (.iconst 1, 1, []), (.goto 27, 0, [93])]
def s466_69 : List E := [(.iload 4, 0, [4]), (.bipush 64, 64, []), (.if_icmp .ne 7, 0, [80]), (.iconst 2, 2, []), (.goto 16, 0, [93])]
def s466_80 : List E := [(.iload 4, 0, [4]), (.sipush 128, 128, []), (.if_icmp .ne 7, 0, [92]), (.iconst 4, 4, []), (.goto 4, 0, [93])]
def s466_92 : List E := [(.iconst 0, 0, []), (.nop, 0, [93])]
def s466_93 : List E := [(.istore 6, 0, [6]), (.iload_n 3, 0, [3]), (.aload_n 0, 0, [0]), (.getfield 782, 0, [16, 70, 0]), (.if_icmp .ge 36, 0, [136]), (.iload 4, 0, [4]), (.ifCond .eq 8, 0, [113]), (.iload 6, 0, [6]), (.ifCond .eq 26, 0, [136]), (.nop, 0, [113])]
def s466_113 : List E := [(.aload_n 0, 0, [0]), (.iconst 4, 4, []), (.iload 5, 0, [5]), (.ifCond .eq 7, 0, [124]), (.iconst 4, 4, []), (.goto 4, 0, [125])]
def s466_124 : List E := [(.iconst 2, 2, []), (.nop, 0, [125])]
def s466_125 : List E := [(.iconst 2, 2, []), (.iload 6, 0, [6]), (.imul, 0, []), (.iadd, 0, []), (.invokevirtual 1210, 0, [458, 16, 33, 72, 0, 3, 0, 0]), (.ifCond .ne 5, 0, [138]), (.nop, 0, [136])]
def s466_136 : List E := [(.iconst 0, 0, []), (.ireturn, 0, [1])]
def s466_138 : List E := [(.aload_n 0, 0, [0]), (.getfield 193, 58, [16, 85, 81, 1]), (.aload_n 0, 0, [0]), (.getfield 817, 0, [16, 76, 0]), (.iload_n 2, 0, [2]), (.iastore, 0, []), (.aload_n 0, 0, [0]), (.getfield 196, 59, [16, 86, 81, 1]), (.aload_n 0, 0, [0]), (.getfield 817, 0, [16, 76, 0]), (.iload_n 3, 0, [3]), (.iastore, 0, []), (.aload_n 0, 0, [0]), (.getfield 199, 60, [16, 87, 81, 1]), (.aload_n 0, 0, [0]), (.getfield 817, 0, [16, 76, 0]), (.iload 5, 0, [5]), (.ifCond .eq 12, 0, [180]), (.aload_n 0, 0, [0]), (.iconst 4, 4, []), (.invokevirtual 1216, 0, [460, 16, 33, 52, 0, 0, 0]), (.i2s, 0, []), (.goto 9, 0, [186])]
def s466_180 : List E := [(.aload_n 0, 0, [0]), (.iconst 4, 4, []), (.invokevirtual 1213, 0, [463, 16, 33, 73, 0, 0, 0]), (.i2b, 0, []), (.nop, 0, [186])]
def s466_186 : List E := [(.iastore, 0, []), (.aload_n 0, 0, [0]), (.getfield 202, 61, [16, 88, 81, 1]), (.aload_n 0, 0, [0]), (.getfield 817, 0, [16, 76, 0]), (.iload 5, 0, [5]), (.ifCond .eq 12, 0, [209]), (.aload_n 0, 0, [0]), (.iconst 4, 4, []), (.invokevirtual 1216, 0, [460, 16, 33, 52, 0, 0, 0]), (.i2s, 0, []), (.goto 9, 0, [215])]
def s466_209 : List E := [(.aload_n 0, 0, [0]), (.iconst 4, 4, []), (.invokevirtual 1213, 0, [463, 16, 33, 73, 0, 0, 0]), (.i2b, 0, []), (.nop, 0, [215])]
def s466_215 : List E := [(.iastore, 0, []), (.aload_n 0, 0, [0]), (.getfield 205, 62, [16, 89, 81, 1]), (.aload_n 0, 0, [0]), (.getfield 817, 0, [16, 76, 0]), (.iload 6, 0, [6]), (.iastore, 0, []), (.iconst 0, 0, []), (.istore 7, 0, [7]), (.nop, 0, [230])]
def s466_230 : List E := [(.iload 7, 0, [7]), (.iconst 4, 4, []), (.if_icmp .ge 39, 0, [272]), (.aload_n 0, 0, [0]), (.getfield 208, 63, [16, 90, 81, 1]), (.iconst 4, 4, []), (.aload_n 0, 0, [0]), (.getfield 817, 0, [16, 76, 0]), (.imul, 0, []), (.iload 7, 0, [7]), (.iadd, 0, []), (.iload 7, 0, [7]), (.iload 6, 0, [6]), (.if_icmp .ge 11, 0, [264]), (.aload_n 0, 0, [0]), (.iconst 4, 4, []), (.invokevirtual 1216, 0, [460, 16, 33, 52, 0, 0, 0]), (.goto 4, 0, [265])]
def s466_264 : List E := [(.iconst 0, 0, []), (.nop, 0, [265])]
def s466_265 : List E := [(.iastore, 0, []), (.iinc 7 1, 1, [7]), (.goto (-39), 0, [230])]
def s466_272 : List E := [(.aload_n 0, 0, [0]), (.dup, 0, []), (.getfield 817, 0, [16, 76, 0]), (.iconst 1, 1, []), (.iadd, 0, []), (.putfield 817, 0, [16, 76, 0]), (.iload_n 2, 0, [2]), (.bipush 32, 32, []), (.iand, 0, []), (.ifCond .le 7, 0, [293]), (.iconst 1, 1, []), (.goto 4, 0, [294])]
def s466_293 : List E := [(.iconst 0, 0, []), (.nop, 0, [294])]
def s466_294 : List E := [(.istore_n 1, 0, [1]), (.goto (-293), 0, [2])]
def s466_298 : List E := [(.aload_n 0, 0, [0]), (.invokevirtual 857, 0, [375, 16, 33, 73, 0, 3]), (.ifCond .eq 10, 0, [312]), (.aload_n 0, 0, [0]), (.invokevirtual 1231, 0, [465, 16, 33, 8, 0, 3]), (.ifCond .eq 7, 0, [316]), (.nop, 0, [312])]
def s466_312 : List E := [(.iconst 1, 1, []), (.goto 4, 0, [317])]
def s466_316 : List E := [(.iconst 0, 0, []), (.nop, 0, [317])]
def s466_317 : List E := [(.ireturn, 0, [1])]
def cd466 : List (Nat × List E) := [(0, s466_0), (2, s466_2), (24, s466_24), (26, s466_26), (55, s466_55), (56, s466_56), (69, s466_69), (80, s466_80), (92, s466_92), (93, s466_93), (113, s466_113), (124, s466_124), (125, s466_125), (136, s466_136), (138, s466_138), (180, s466_180), (186, s466_186), (209, s466_209), (215, s466_215), (230, s466_230), (264, s466_264), (265, s466_265), (272, s466_272), (293, s466_293), (294, s466_294), (298, s466_298), (312, s466_312), (316, s466_316), (317, s466_317)]
theorem l466_0 : lkc cd466 0 = s466_0 := rfl
theorem l466_2 : lkc cd466 2 = s466_2 := rfl
theorem l466_24 : lkc cd466 24 = s466_24 := rfl
theorem l466_26 : lkc cd466 26 = s466_26 := rfl
theorem l466_55 : lkc cd466 55 = s466_55 := rfl
theorem l466_56 : lkc cd466 56 = s466_56 := rfl
theorem l466_69 : lkc cd466 69 = s466_69 := rfl
theorem l466_80 : lkc cd466 80 = s466_80 := rfl
theorem l466_92 : lkc cd466 92 = s466_92 := rfl
theorem l466_93 : lkc cd466 93 = s466_93 := rfl
theorem l466_113 : lkc cd466 113 = s466_113 := rfl
theorem l466_124 : lkc cd466 124 = s466_124 := rfl
theorem l466_125 : lkc cd466 125 = s466_125 := rfl
theorem l466_136 : lkc cd466 136 = s466_136 := rfl
theorem l466_138 : lkc cd466 138 = s466_138 := rfl
theorem l466_180 : lkc cd466 180 = s466_180 := rfl
theorem l466_186 : lkc cd466 186 = s466_186 := rfl
theorem l466_209 : lkc cd466 209 = s466_209 := rfl
theorem l466_215 : lkc cd466 215 = s466_215 := rfl
theorem l466_230 : lkc cd466 230 = s466_230 := rfl
theorem l466_264 : lkc cd466 264 = s466_264 := rfl
theorem l466_265 : lkc cd466 265 = s466_265 := rfl
theorem l466_272 : lkc cd466 272 = s466_272 := rfl
theorem l466_293 : lkc cd466 293 = s466_293 := rfl
theorem l466_294 : lkc cd466 294 = s466_294 := rfl
theorem l466_298 : lkc cd466 298 = s466_298 := rfl
theorem l466_312 : lkc cd466 312 = s466_312 := rfl
theorem l466_316 : lkc cd466 316 = s466_316 := rfl
theorem l466_317 : lkc cd466 317 = s466_317 := rfl
theorem k466 : chkM 466 16 true cd466 = true := by decide +kernel
/- FontHouseModel.hem(I)V -/
def s467_0 : List E := [(.iconst 0, 0, []), (.istore_n 2, 0, [2]), (.nop, 0, [2])]
def s467_2 : List E := [(.iload_n 2, 0, [2]), (.aload_n 0, 0, [0]), (.getfield 1192, 0, [16, 141, 0]), (.if_icmp .ge 18, 0, [25]), (.aload_n 0, 0, [0]), (.iload_n 2, 0, [2]), (.iload_n 1, 0, [1]), (.invokevirtual 1253, 0, [468, 16, 33, 212, 0, 3, 0, 0]), (.ifCond .ne 9, 0, [25]), (.iinc 2 1, 1, [2]), (.goto (-20), 0, [2])]
def s467_25 : List E := [(.iload_n 2, 0, [2]), (.aload_n 0, 0, [0]), (.getfield 1192, 0, [16, 141, 0]), (.if_icmp .ne 4, 0, [34]), (.return_, 0, [])]
def s467_34 : List E := [(.aload_n 0, 0, [0]), (.iload_n 1, 0, [1]), (.iload_n 2, 0, [2]), (.invokevirtual 1256, 0, [469, 16, 33, 8, 0, 100, 0, 0]), (.iconst 0, 0, []), (.istore_n 3, 0, [3]), (.nop, 0, [42])]
def s467_42 : List E := [(.iload_n 3, 0, [3]), (.aload_n 0, 0, [0]), (.getfield 1192, 0, [16, 141, 0]), (.if_icmp .ge 39, 0, [86]), (.aload_n 0, 0, [0]), (.getfield 343, 0, [16, 2, 0]), (.ifCond .ne 32, 0, [86]), (.aload_n 0, 0, [0]), (.iload_n 3, 0, [3]), (.iload_n 1, 0, [1]), (.invokevirtual 1253, 0, [468, 16, 33, 212, 0, 3, 0, 0]), (.ifCond .eq 17, 0, [80]), (.aload_n 0, 0, [0]), (.iload_n 3, 0, [3]), (.ldc2_w 668, 1752003704, []), (.aload_n 0, 0, [0]), (.getfield 314, 98, [16, 145, 81, 1]), (.iload_n 1, 0, [1]), (.iaload, 0, []), (.invokevirtual 658, 0, [319, 16, 33, 186, 0, 100, 0, 5, 0]), (.nop, 0, [80])]
def s467_80 : List E := [(.iinc 3 1, 1, [3]), (.goto (-41), 0, [42])]
def s467_86 : List E := [(.return_, 0, [])]
def cd467 : List (Nat × List E) := [(0, s467_0), (2, s467_2), (25, s467_25), (34, s467_34), (42, s467_42), (80, s467_80), (86, s467_86)]
theorem l467_0 : lkc cd467 0 = s467_0 := rfl
theorem l467_2 : lkc cd467 2 = s467_2 := rfl
theorem l467_25 : lkc cd467 25 = s467_25 := rfl
theorem l467_34 : lkc cd467 34 = s467_34 := rfl
theorem l467_42 : lkc cd467 42 = s467_42 := rfl
theorem l467_80 : lkc cd467 80 = s467_80 := rfl
theorem l467_86 : lkc cd467 86 = s467_86 := rfl
theorem k467 : chkM 467 16 true cd467 = true := by decide +kernel
/- FontHouseModel.hasEntry(II)Z -/
def s468_0 : List E := [(.iconst 0, 0, []), (.istore_n 3, 0, [3]), (.nop, 0, [2])]
def s468_2 : List E := [(.iload_n 3, 0, [3]), (.aload_n 0, 0, [0]), (.getfield 305, 95, [16, 142, 81, 1]), (.iload_n 1, 0, [1]), (.iaload, 0, []), (.if_icmp .ge 26, 0, [35]), (.aload_n 0, 0, [0]), (.getfield 311, 97, [16, 144, 81, 1]), (.bipush 16, 16, []), (.iload_n 1, 0, [1]), (.imul, 0, []), (.iload_n 3, 0, [3]), (.iadd, 0, []), (.iaload, 0, []), (.iload_n 2, 0, [2]), (.if_icmp .ne 5, 0, [29]), (.iconst 1, 1, []), (.ireturn, 0, [1])]
def s468_29 : List E := [(.iinc 3 1, 1, [3]), (.goto (-30), 0, [2])]
def s468_35 : List E := [(.iconst 0, 0, []), (.ireturn, 0, [1])]
def cd468 : List (Nat × List E) := [(0, s468_0), (2, s468_2), (29, s468_29), (35, s468_35)]
theorem l468_0 : lkc cd468 0 = s468_0 := rfl
theorem l468_2 : lkc cd468 2 = s468_2 := rfl
theorem l468_29 : lkc cd468 29 = s468_29 := rfl
theorem l468_35 : lkc cd468 35 = s468_35 := rfl
theorem k468 : chkM 468 16 true cd468 = true := by decide +kernel
/- FontHouseModel.hemBack(II)V -/
def s469_0 : List E := [(.aload_n 0, 0, [0]), (.getfield 283, 88, [16, 132, 87, 1]), (.iload_n 1, 0, [1]), (.laload, 0, []), (.l2i, 0, []), (.istore_n 3, 0, [3]), (.aload_n 0, 0, [0]), (.getfield 317, 99, [16, 146, 81, 1]), (.iload_n 1, 0, [1]), (.iaload, 0, []), (.istore 4, 0, [4]), (.aload_n 0, 0, [0]), (.iload_n 2, 0, [2]), (.iconst 0, 0, []), (.invokevirtual 884, 0, [378, 16, 33, 8, 0, 3, 3, 0]), (.ifCond .eq 8, 0, [30]), (.iload_n 3, 0, [3]), (.iconst 1, 1, []), (.if_icmp .ge 12, 0, [39]), (.nop, 0, [30])]
def s469_30 : List E := [(.aload_n 0, 0, [0]), (.bipush 60, 60, []), (.iload_n 1, 0, [1]), (.invokevirtual 357, 0, [243, 16, 33, 181, 0, 3, 0, 0]), (.pop, 0, []), (.return_, 0, [])]
def s469_39 : List E := [(.aload_n 0, 0, [0]), (.getfield 25, 4, [16, 7, 83, 1]), (.iload 4, 0, [4]), (.baload, 0, [41]), (.sipush 255, 255, []), (.iand, 0, []), (.istore 5, 0, [5]), (.aload_n 0, 0, [0]), (.getfield 782, 0, [16, 70, 0]), (.aload_n 0, 0, [0]), (.getfield 785, 0, [16, 71, 0]), (.isub, 0, []), (.istore 6, 0, [6]), (.iconst 1, 1, []), (.iconst 2, 2, []), (.aload_n 0, 0, [0]), (.getfield 785, 0, [16, 71, 0]), (.imul, 0, []), (.iadd, 0, []), (.iload 5, 0, [5]), (.iconst 1, 1, []), (.iand, 0, []), (.ifCond .ne 12, 0, [87]), (.iconst 2, 2, []), (.aload_n 0, 0, [0]), (.getfield 785, 0, [16, 71, 0]), (.imul, 0, []), (.goto 4, 0, [88])]
def s469_87 : List E := [(.iconst 0, 0, []), (.nop, 0, [88])]
def s469_88 : List E := [(.iadd, 0, []), (.iload 5, 0, [5]), (.iconst 2, 2, []), (.iand, 0, []), (.ifCond .ne 10, 0, [103]), (.iconst 2, 2, []), (.iload 6, 0, [6]), (.imul, 0, []), (.goto 4, 0, [104])]
def s469_103 : List E := [(.iconst 0, 0, []), (.nop, 0, [104])]
def s469_104 : List E := [(.iadd, 0, []), (.istore 7, 0, [7]), (.iload 5, 0, [5]), (.ifCond .eq 37, 0, [146]), (.iload 5, 0, [5]), (.iconst 3, 3, []), (.if_icmp .gt 31, 0, [146]), (.iload_n 3, 0, [3]), (.iload 7, 0, [7]), (.if_icmp .ne 25, 0, [146]), (.aload_n 0, 0, [0]), (.getfield 280, 87, [16, 131, 87, 1]), (.iload_n 1, 0, [1]), (.laload, 0, []), (.iconst 4, 4, []), (.aload_n 0, 0, [0]), (.getfield 785, 0, [16, 71, 0]), (.imul, 0, []), (.iconst 2, 2, []), (.iload 6, 0, [6]), (.imul, 0, []), (.iadd, 0, []), (.i2l, 0, []), (.lcmp, 0, []), (.ifCond .eq 12, 0, [155]), (.nop, 0, [146])]
def s469_146 : List E := [(.aload_n 0, 0, [0]), (.bipush 60, 60, []), (.iload_n 1, 0, [1]), (.invokevirtual 357, 0, [243, 16, 33, 181, 0, 3, 0, 0]), (.pop, 0, []), (.return_, 0, [])]
def s469_155 : List E := [(.iinc 4 1, 1, [4]), (.aload_n 0, 0, [0]), (.aload_n 0, 0, [0]), (.getfield 280, 87, [16, 131, 87, 1]), (.iload_n 1, 0, [1]), (.laload, 0, []), (.l2i, 0, []), (.invokevirtual 621, 0, [316, 16, 33, 180, 0, 0, 0]), (.istore 8, 0, [8]), (.iload 4, 0, [4]), (.iconst 2, 2, []), (.aload_n 0, 0, [0]), (.getfield 785, 0, [16, 71, 0]), (.imul, 0, []), (.iadd, 0, []), (.istore 9, 0, [9]), (.iconst 0, 0, []), (.istore 10, 0, [10]), (.nop, 0, [185])]
def s469_185 : List E := [(.iload 10, 0, [10]), (.aload_n 0, 0, [0]), (.getfield 782, 0, [16, 70, 0]), (.if_icmp .ge 127, 0, [318]), (.iload 10, 0, [10]), (.aload_n 0, 0, [0]), (.getfield 785, 0, [16, 71, 0]), (.if_icmp .ge 7, 0, [207]), (.iconst 1, 1, []), (.goto 4, 0, [208])]
def s469_207 : List E := [(.iconst 0, 0, []), (.nop, 0, [208])]
def s469_208 : List E := [(.istore 11, 0, [11]), (.iload 11, 0, [11]), (.ifCond .eq 24, 0, [236]), (.aload_n 0, 0, [0]), (.iload 8, 0, [8]), (.iconst 4, 4, []), (.iload 10, 0, [10]), (.imul, 0, []), (.aload_n 0, 0, [0]), (.iload 4, 0, [4]), (.iconst 2, 2, []), (.iload 10, 0, [10]), (.imul, 0, []), (.iadd, 0, []), (.invokevirtual 1207, 0, [457, 16, 33, 182, 0, 0, 0]), (.invokevirtual 618, 0, [318, 16, 33, 180, 0, 100, 0, 0, 0]), (.nop, 0, [236])]
def s469_236 : List E := [(.iload 5, 0, [5]), (.iload 11, 0, [11]), (.ifCond .eq 7, 0, [247]), (.iconst 1, 1, []), (.goto 4, 0, [248])]
def s469_247 : List E := [(.iconst 2, 2, []), (.nop, 0, [248])]
def s469_248 : List E := [(.iand, 0, []), (.ifCond .ne 17, 0, [266]), (.aload_n 0, 0, [0]), (.iload 9, 0, [9]), (.invokevirtual 1207, 0, [457, 16, 33, 182, 0, 0, 0]), (.istore 12, 0, [12]), (.iinc 9 2, 2, [9]), (.goto 18, 0, [281])]
def s469_266 : List E := [(.aload_n 0, 0, [0]), (.iload_n 2, 0, [2]), (.iload 10, 0, [10]), (.invokevirtual 899, 0, [381, 16, 33, 43, 0, 100, 0, 0]), (.aload_n 0, 0, [0]), (.getfield 175, 52, [16, 79, 81, 1]), (.iconst 0, 0, []), (.iaload, 0, []), (.istore 12, 0, [12]), (.nop, 0, [281])]
def s469_281 : List E := [(.aload_n 0, 0, [0]), (.iload 8, 0, [8]), (.iload 11, 0, [11]), (.ifCond .eq 12, 0, [298]), (.iconst 4, 4, []), (.iload 10, 0, [10]), (.imul, 0, []), (.iconst 2, 2, []), (.iadd, 0, []), (.goto 12, 0, [307])]
def s469_298 : List E := [(.iconst 2, 2, []), (.aload_n 0, 0, [0]), (.getfield 785, 0, [16, 71, 0]), (.iload 10, 0, [10]), (.iadd, 0, []), (.imul, 0, []), (.nop, 0, [307])]
def s469_307 : List E := [(.iload 12, 0, [12]), (.invokevirtual 618, 0, [318, 16, 33, 180, 0, 100, 0, 0, 0]), (.iinc 10 1, 1, [10]), (.goto (-130), 0, [185])]
def s469_318 : List E := [(.aload_n 0, 0, [0]), (.getfield 314, 98, [16, 145, 81, 1]), (.iload_n 1, 0, [1]), (.iload 8, 0, [8]), (.iastore, 0, []), (.return_, 0, [])]
def cd469 : List (Nat × List E) := [(0, s469_0), (30, s469_30), (39, s469_39), (87, s469_87), (88, s469_88), (103, s469_103), (104, s469_104), (146, s469_146), (155, s469_155), (185, s469_185), (207, s469_207), (208, s469_208), (236, s469_236), (247, s469_247), (248, s469_248), (266, s469_266), (281, s469_281), (298, s469_298), (307, s469_307), (318, s469_318)]
theorem l469_0 : lkc cd469 0 = s469_0 := rfl
theorem l469_30 : lkc cd469 30 = s469_30 := rfl
theorem l469_39 : lkc cd469 39 = s469_39 := rfl
theorem l469_87 : lkc cd469 87 = s469_87 := rfl
theorem l469_88 : lkc cd469 88 = s469_88 := rfl
theorem l469_103 : lkc cd469 103 = s469_103 := rfl
theorem l469_104 : lkc cd469 104 = s469_104 := rfl
theorem l469_146 : lkc cd469 146 = s469_146 := rfl
theorem l469_155 : lkc cd469 155 = s469_155 := rfl
theorem l469_185 : lkc cd469 185 = s469_185 := rfl
theorem l469_207 : lkc cd469 207 = s469_207 := rfl
theorem l469_208 : lkc cd469 208 = s469_208 := rfl
theorem l469_236 : lkc cd469 236 = s469_236 := rfl
theorem l469_247 : lkc cd469 247 = s469_247 := rfl
theorem l469_248 : lkc cd469 248 = s469_248 := rfl
theorem l469_266 : lkc cd469 266 = s469_266 := rfl
theorem l469_281 : lkc cd469 281 = s469_281 := rfl
theorem l469_298 : lkc cd469 298 = s469_298 := rfl
theorem l469_307 : lkc cd469 307 = s469_307 := rfl
theorem l469_318 : lkc cd469 318 = s469_318 := rfl
theorem k469 : chkM 469 16 true cd469 = true := by decide +kernel
