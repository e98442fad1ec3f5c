set_option maxRecDepth 100000
/- Unpacker.isEnd(J)Z -/
def s222_0 : List E := [(.lload_n 1, 0, [1]), (.ldc2_w 213, 3, []), (.ladd, 0, []), (.ldc2_w 215, -4, []), (.land, 0, []), (.aload_n 0, 0, [0]), (.getfield 54, 0, [15, 0, 7]), (.getfield 57, 0, [1, 1, 0]), (.i2l, 0, []), (.lcmp, 0, []), (.ifCond .ne 7, 0, [25]), (.iconst 1, 1, []), (.goto 4, 0, [26])]
def s222_25 : List E := [(.iconst 0, 0, []), (.nop, 0, [26])]
def s222_26 : List E := [(.ireturn, 0, [1])]
def cd222 : List (Nat × List E) := [(0, s222_0), (25, s222_25), (26, s222_26)]
theorem l222_0 : lkc cd222 0 = s222_0 := rfl
theorem l222_25 : lkc cd222 25 = s222_25 := rfl
theorem l222_26 : lkc cd222 26 = s222_26 := rfl
theorem k222 : chkM 222 15 true cd222 = true := by decide +kernel
/- Unpacker.tables()V -/
def s223_0 : List E := [(.aload_n 0, 0, [0]), (.getfield 3, -417, [15, 10, 1, 1]), (.getfield 194, 259, [0, 7, 9, 1]), (.getfield 204, 1, [4, 2, 3, 1]), (.astore_n 1, 0, [1]), (.iconst 0, 0, []), (.istore_n 2, 0, [2]), (.nop, 0, [13])]
def s223_13 : List E := [(.iload_n 2, 0, [2]), (.aload_n 0, 0, [0]), (.getfield 18, 1, [15, 2, 29, 1]), (.getfield 107, 0, [14, 0, 0]), (.if_icmp .ge 28, 0, [49]), (.aload_n 0, 0, [0]), (.getfield 18, 1, [15, 2, 29, 1]), (.getfield 217, 5, [14, 5, 91, 1]), (.iload_n 2, 0, [2]), (.aload_n 0, 0, [0]), (.getfield 3, -417, [15, 10, 1, 1]), (.getfield 221, 7, [0, 6, 5, 1]), (.invokevirtual 225, 0, [474, 2, 5, 216, 0, 7]), (.aastore, 0, [45, 1]), (.iinc 2 1, 1, [2]), (.goto (-33), 0, [13])]
def s223_49 : List E := [(.iconst 0, 0, []), (.istore_n 2, 0, [2]), (.nop, 0, [51])]
def s223_51 : List E := [(.iload_n 2, 0, [2]), (.aload_n 0, 0, [0]), (.getfield 18, 1, [15, 2, 29, 1]), (.getfield 107, 0, [14, 0, 0]), (.if_icmp .ge 125, 0, [184]), (.aload_n 0, 0, [0]), (.getfield 18, 1, [15, 2, 29, 1]), (.iload_n 2, 0, [2]), (.invokevirtual 155, 0, [205, 14, 29, 236, 0, 3, 0]), (.ifCond .ne 34, 0, [104]), (.aload_n 0, 0, [0]), (.getfield 18, 1, [15, 2, 29, 1]), (.getfield 217, 5, [14, 5, 91, 1]), (.iload_n 2, 0, [2]), (.aaload, 0, [45, 2]), (.aload_n 1, 0, [1]), (.aload_n 0, 0, [0]), (.getfield 44, 14, [15, 8, 81, 1]), (.iload_n 2, 0, [2]), (.iaload, 0, []), (.aload_n 0, 0, [0]), (.getfield 18, 1, [15, 2, 29, 1]), (.getfield 152, 4, [14, 4, 81, 1]), (.iload_n 2, 0, [2]), (.iaload, 0, []), (.invokevirtual 190, 0, [115, 1, 3, 174, 0, 100, 0, 0, 7]), (.goto 77, 0, [178])]
def s223_104 : List E := [(.aload_n 0, 0, [0]), (.getfield 18, 1, [15, 2, 29, 1]), (.getfield 124, 1, [14, 1, 87, 1]), (.iload_n 2, 0, [2]), (.laload, 0, []), (.getstatic 137, 1735162214, [5]), (.lcmp, 0, []), (.ifCond .ne 61, 0, [178]), (.aload_n 0, 0, [0]), (.getfield 3, -417, [15, 10, 1, 1]), (.getfield 231, 365, [0, 11, 25, 1]), (.aload_n 1, 0, [1]), (.aload_n 0, 0, [0]), (.getfield 44, 14, [15, 8, 81, 1]), (.iload_n 2, 0, [2]), (.iaload, 0, []), (.aload_n 0, 0, [0]), (.getfield 18, 1, [15, 2, 29, 1]), (.getfield 152, 4, [14, 4, 81, 1]), (.iload_n 2, 0, [2]), (.iaload, 0, []), (.iload_n 2, 0, [2]), (.aload_n 0, 0, [0]), (.getfield 18, 1, [15, 2, 29, 1]), (.getfield 217, 5, [14, 5, 91, 1]), (.iload_n 2, 0, [2]), (.aaload, 0, [45, 2]), (.aload_n 0, 0, [0]), (.getfield 18, 1, [15, 2, 29, 1]), (.getfield 217, 5, [14, 5, 91, 1]), (.iload_n 2, 0, [2]), (.iconst 1, 1, []), (.iadd, 0, []), (.aaload, 0, [45, 2]), (.aload_n 0, 0, [0]), (.getfield 18, 1, [15, 2, 29, 1]), (.getfield 146, 3, [14, 3, 81, 1]), (.iload_n 2, 0, [2]), (.iconst 1, 1, []), (.iadd, 0, []), (.iaload, 0, []), (.invokevirtual 235, 0, [183, 12, 25, 63, 0, 100, 0, 7, 7, 0, 0, 0, 7]), (.nop, 0, [178])]
def s223_178 : List E := [(.iinc 2 1, 1, [2]), (.goto (-130), 0, [51])]
def s223_184 : List E := [(.iconst 0, 0, []), (.istore_n 2, 0, [2]), (.nop, 0, [186])]
def s223_186 : List E := [(.iload_n 2, 0, [2]), (.aload_n 0, 0, [0]), (.getfield 18, 1, [15, 2, 29, 1]), (.getfield 107, 0, [14, 0, 0]), (.if_icmp .ge 53, 0, [247]), (.aload_n 0, 0, [0]), (.getfield 18, 1, [15, 2, 29, 1]), (.getfield 124, 1, [14, 1, 87, 1]), (.iload_n 2, 0, [2]), (.laload, 0, []), (.getstatic 143, 1752003704, [3]), (.lcmp, 0, []), (.ifCond .ne 31, 0, [241]), (.aload_n 0, 0, [0]), (.getfield 18, 1, [15, 2, 29, 1]), (.iload_n 2, 0, [2]), (.invokevirtual 155, 0, [205, 14, 29, 236, 0, 3, 0]), (.ifCond .eq 20, 0, [241]), (.aload_n 0, 0, [0]), (.getfield 18, 1, [15, 2, 29, 1]), (.getfield 163, 6, [14, 6, 81, 1]), (.iload_n 2, 0, [2]), (.iaload, 0, []), (.ifCond .lt 8, 0, [241]), (.aload_n 0, 0, [0]), (.iload_n 2, 0, [2]), (.invokevirtual 241, 0, [224, 15, 31, 8, 0, 100, 0]), (.nop, 0, [241])]
def s223_241 : List E := [(.iinc 2 1, 1, [2]), (.goto (-58), 0, [186])]
def s223_247 : List E := [(.return_, 0, [])]
def cd223 : List (Nat × List E) := [(0, s223_0), (13, s223_13), (49, s223_49), (51, s223_51), (104, s223_104), (178, s223_178), (184, s223_184), (186, s223_186), (241, s223_241), (247, s223_247)]
theorem l223_0 : lkc cd223 0 = s223_0 := rfl
theorem l223_13 : lkc cd223 13 = s223_13 := rfl
theorem l223_49 : lkc cd223 49 = s223_49 := rfl
theorem l223_51 : lkc cd223 51 = s223_51 := rfl
theorem l223_104 : lkc cd223 104 = s223_104 := rfl
theorem l223_178 : lkc cd223 178 = s223_178 := rfl
theorem l223_184 : lkc cd223 184 = s223_184 := rfl
theorem l223_186 : lkc cd223 186 = s223_186 := rfl
theorem l223_241 : lkc cd223 241 = s223_241 := rfl
theorem l223_247 : lkc cd223 247 = s223_247 := rfl
theorem k223 : chkM 223 15 true cd223 = true := by decide +kernel
/- Unpacker.hmtx(I)V -/
def s224_0 : List E := [(.aload_n 0, 0, [0]), (.aload_n 0, 0, [0]), (.getfield 50, 15, [15, 9, 7, 1]), (.aload_n 0, 0, [0]), (.getfield 18, 1, [15, 2, 29, 1]), (.getfield 163, 6, [14, 6, 81, 1]), (.iload_n 1, 0, [1]), (.iaload, 0, []), (.invokevirtual 251, 0, [225, 15, 31, 176, 0, 100, 0, 9]), (.aload_n 0, 0, [0]), (.getfield 3, -417, [15, 10, 1, 1]), (.getfield 194, 259, [0, 7, 9, 1]), (.getfield 204, 1, [4, 2, 3, 1]), (.astore_n 2, 0, [2]), (.aload_n 0, 0, [0]), (.getfield 44, 14, [15, 8, 81, 1]), (.iload_n 1, 0, [1]), (.iaload, 0, []), (.istore_n 3, 0, [3]), (.aload_n 0, 0, [0]), (.getfield 18, 1, [15, 2, 29, 1]), (.getfield 152, 4, [14, 4, 81, 1]), (.iload_n 1, 0, [1]), (.iaload, 0, []), (.istore 4, 0, [4]), (.iload 4, 0, [4]), (.ifCond .ne 7, 0, [55]), (.iconst 0, 0, []), (.goto 8, 0, [60])]
def s224_55 : List E := [(.aload_n 2, 0, [2]), (.iload_n 3, 0, [3]), (.invokevirtual 79, 0, [114, 1, 3, 204, 0, 0, 0]), (.nop, 0, [60])]
def s224_60 : List E := [(.istore 5, 0, [5]), (.iload 5, 0, [5]), (.i2l, 0, []), (.lconst 1, 1, []), (.ldc2_w 213, 3, []), (.invokestatic 112, 0, [38, 200, 0, 3, 5, 5, 5]), (.ifCond .eq 21, 0, [93]), (.aload_n 0, 0, [0]), (.getfield 3, -417, [15, 10, 1, 1]), (.getfield 255, 348, [0, 10, 21, 1]), (.aload_n 0, 0, [0]), (.getfield 50, 15, [15, 9, 7, 1]), (.iconst 0, 0, []), (.invokevirtual 259, 0, [145, 10, 21, 8, 0, 0, 3, 9]), (.ifCond .eq 14, 0, [104]), (.nop, 0, [93])]
def s224_93 : List E := [(.new 64, 0, [17, 35, 8]), (.dup, 0, []), (.bipush 60, 60, []), (.iload_n 1, 0, [1]), (.invokespecial 66, 0, [470, 17, 35, 141, 0, 100, 0, 0]), (.athrow, 0, [])]
def s224_104 : List E := [(.aload_n 0, 0, [0]), (.getfield 3, -417, [15, 10, 1, 1]), (.getfield 255, 348, [0, 10, 21, 1]), (.getfield 265, 0, [10, 1, 0]), (.istore 6, 0, [6]), (.aload_n 0, 0, [0]), (.getfield 3, -417, [15, 10, 1, 1]), (.getfield 255, 348, [0, 10, 21, 1]), (.getfield 268, 0, [10, 0, 0]), (.iload 6, 0, [6]), (.isub, 0, []), (.istore 7, 0, [7]), (.iconst 1, 1, []), (.iconst 2, 2, []), (.iload 6, 0, [6]), (.imul, 0, []), (.iadd, 0, []), (.iload 5, 0, [5]), (.iconst 1, 1, []), (.iand, 0, []), (.ifCond .eq 7, 0, [148]), (.iconst 0, 0, []), (.goto 7, 0, [152])]
def s224_148 : List E := [(.iconst 2, 2, []), (.iload 6, 0, [6]), (.imul, 0, []), (.nop, 0, [152])]
def s224_152 : List E := [(.iadd, 0, []), (.iload 5, 0, [5]), (.iconst 2, 2, []), (.iand, 0, []), (.ifCond .eq 7, 0, [164]), (.iconst 0, 0, []), (.goto 7, 0, [168])]
def s224_164 : List E := [(.iconst 2, 2, []), (.iload 7, 0, [7]), (.imul, 0, []), (.nop, 0, [168])]
def s224_168 : List E := [(.iadd, 0, []), (.istore 8, 0, [8]), (.iload 4, 0, [4]), (.iload 8, 0, [8]), (.if_icmp .ne 24, 0, [199]), (.aload_n 0, 0, [0]), (.getfield 18, 1, [15, 2, 29, 1]), (.getfield 146, 3, [14, 3, 81, 1]), (.iload_n 1, 0, [1]), (.iaload, 0, []), (.iconst 4, 4, []), (.iload 6, 0, [6]), (.imul, 0, []), (.iconst 2, 2, []), (.iload 7, 0, [7]), (.imul, 0, []), (.iadd, 0, []), (.if_icmp .eq 14, 0, [210]), (.nop, 0, [199])]
def s224_199 : List E := [(.new 64, 0, [17, 35, 8]), (.dup, 0, []), (.bipush 60, 60, []), (.iload_n 1, 0, [1]), (.invokespecial 66, 0, [470, 17, 35, 141, 0, 100, 0, 0]), (.athrow, 0, [])]
def s224_210 : List E := [(.iload_n 3, 0, [3]), (.iconst 1, 1, []), (.iadd, 0, []), (.istore 9, 0, [9]), (.iload 9, 0, [9]), (.iconst 2, 2, []), (.iload 6, 0, [6]), (.imul, 0, []), (.iadd, 0, []), (.istore 10, 0, [10]), (.aload_n 0, 0, [0]), (.getfield 18, 1, [15, 2, 29, 1]), (.getfield 217, 5, [14, 5, 91, 1]), (.iload_n 1, 0, [1]), (.aaload, 0, [45, 2]), (.astore 11, 0, [11]), (.iconst 0, 0, []), (.istore 12, 0, [12]), (.nop, 0, [238])]
def s224_238 : List E := [(.iload 12, 0, [12]), (.aload_n 0, 0, [0]), (.getfield 3, -417, [15, 10, 1, 1]), (.getfield 255, 348, [0, 10, 21, 1]), (.getfield 268, 0, [10, 0, 0]), (.if_icmp .ge 84, 0, [334]), (.iload 12, 0, [12]), (.iload 6, 0, [6]), (.if_icmp .ge 19, 0, [276]), (.aload 11, 0, [11]), (.aload_n 2, 0, [2]), (.iload 9, 0, [9]), (.iconst 2, 2, []), (.iload 12, 0, [12]), (.imul, 0, []), (.iadd, 0, []), (.invokevirtual 72, 0, [118, 1, 3, 183, 0, 0, 0]), (.invokevirtual 271, 0, [121, 1, 3, 183, 0, 100, 0]), (.nop, 0, [276])]
def s224_276 : List E := [(.iload 5, 0, [5]), (.iload 12, 0, [12]), (.iload 6, 0, [6]), (.if_icmp .ge 7, 0, [289]), (.iconst 1, 1, []), (.goto 4, 0, [290])]
def s224_289 : List E := [(.iconst 2, 2, []), (.nop, 0, [290])]
def s224_290 : List E := [(.iand, 0, []), (.ifCond .eq 23, 0, [314]), (.aload 11, 0, [11]), (.aload_n 0, 0, [0]), (.getfield 3, -417, [15, 10, 1, 1]), (.getfield 255, 348, [0, 10, 21, 1]), (.iload 12, 0, [12]), (.invokevirtual 274, 0, [154, 10, 21, 32, 0, 0, 0]), (.invokevirtual 271, 0, [121, 1, 3, 183, 0, 100, 0]), (.goto 17, 0, [328])]
def s224_314 : List E := [(.aload 11, 0, [11]), (.aload_n 2, 0, [2]), (.iload 10, 0, [10]), (.invokevirtual 72, 0, [118, 1, 3, 183, 0, 0, 0]), (.invokevirtual 271, 0, [121, 1, 3, 183, 0, 100, 0]), (.iinc 10 2, 2, [10]), (.nop, 0, [328])]
def s224_328 : List E := [(.iinc 12 1, 1, [12]), (.goto (-93), 0, [238])]
def s224_334 : List E := [(.return_, 0, [])]
def cd224 : List (Nat × List E) := [(0, s224_0), (55, s224_55), (60, s224_60), (93, s224_93), (104, s224_104), (148, s224_148), (152, s224_152), (164, s224_164), (168, s224_168), (199, s224_199), (210, s224_210), (238, s224_238), (276, s224_276), (289, s224_289), (290, s224_290), (314, s224_314), (328, s224_328), (334, s224_334)]
theorem l224_0 : lkc cd224 0 = s224_0 := rfl
theorem l224_55 : lkc cd224 55 = s224_55 := rfl
theorem l224_60 : lkc cd224 60 = s224_60 := rfl
theorem l224_93 : lkc cd224 93 = s224_93 := rfl
theorem l224_104 : lkc cd224 104 = s224_104 := rfl
theorem l224_148 : lkc cd224 148 = s224_148 := rfl
theorem l224_152 : lkc cd224 152 = s224_152 := rfl
theorem l224_164 : lkc cd224 164 = s224_164 := rfl
theorem l224_168 : lkc cd224 168 = s224_168 := rfl
theorem l224_199 : lkc cd224 199 = s224_199 := rfl
theorem l224_210 : lkc cd224 210 = s224_210 := rfl
theorem l224_238 : lkc cd224 238 = s224_238 := rfl
theorem l224_276 : lkc cd224 276 = s224_276 := rfl
theorem l224_289 : lkc cd224 289 = s224_289 := rfl
theorem l224_290 : lkc cd224 290 = s224_290 := rfl
theorem l224_314 : lkc cd224 314 = s224_314 := rfl
theorem l224_328 : lkc cd224 328 = s224_328 := rfl
theorem l224_334 : lkc cd224 334 = s224_334 := rfl
theorem k224 : chkM 224 15 true cd224 = true := by decide +kernel
/- Unpacker.give(LFontHouse$Font;I)V -/
def s225_0 : List E := [(.aload_n 1, 0, [1]), (.aload_n 0, 0, [0]), (.getfield 26, 9, [15, 4, 81, 1]), (.iload_n 2, 0, [2]), (.iaload, 0, []), (.invokevirtual 244, 0, [483, 3, 7, 12, 0, 100, 0]), (.iconst 0, 0, []), (.istore_n 3, 0, [3]), (.nop, 0, [12])]
def s225_12 : List E := [(.iload_n 3, 0, [3]), (.aload_n 0, 0, [0]), (.getfield 29, 10, [15, 5, 81, 1]), (.iload_n 2, 0, [2]), (.iaload, 0, []), (.if_icmp .ge 47, 0, [66]), (.aload_n 0, 0, [0]), (.getfield 32, 11, [15, 6, 81, 1]), (.bipush 16, 16, []), (.iload_n 2, 0, [2]), (.imul, 0, []), (.iload_n 3, 0, [3]), (.iadd, 0, []), (.iaload, 0, []), (.istore 4, 0, [4]), (.aload_n 1, 0, [1]), (.aload_n 0, 0, [0]), (.getfield 18, 1, [15, 2, 29, 1]), (.getfield 124, 1, [14, 1, 87, 1]), (.iload 4, 0, [4]), (.laload, 0, []), (.aload_n 0, 0, [0]), (.getfield 18, 1, [15, 2, 29, 1]), (.getfield 217, 5, [14, 5, 91, 1]), (.iload 4, 0, [4]), (.aaload, 0, [45, 2]), (.invokevirtual 247, 0, [484, 3, 7, 8, 0, 3, 7, 5]), (.pop, 0, []), (.iinc 3 1, 1, [3]), (.goto (-51), 0, [12])]
def s225_66 : List E := [(.return_, 0, [])]
def cd225 : List (Nat × List E) := [(0, s225_0), (12, s225_12), (66, s225_66)]
theorem l225_0 : lkc cd225 0 = s225_0 := rfl
theorem l225_12 : lkc cd225 12 = s225_12 := rfl
theorem l225_66 : lkc cd225 66 = s225_66 := rfl
theorem k225 : chkM 225 15 true cd225 = true := by decide +kernel
/- Unpacker.give()V -/
def s226_0 : List E := [(.iconst 0, 0, []), (.istore_n 1, 0, [1]), (.nop, 0, [2])]
def s226_2 : List E := [(.iload_n 1, 0, [1]), (.iconst 4, 4, []), (.if_icmp .ge 68, 0, [72]), (.aload_n 0, 0, [0]), (.getfield 3, -417, [15, 10, 1, 1]), (.getfield 221, 7, [0, 6, 5, 1]), (.getfield 294, 2, [2, 1, 93, 1]), (.iload_n 1, 0, [1]), (.aaload, 0, [46, 6]), (.iload_n 1, 0, [1]), (.aload_n 0, 0, [0]), (.getfield 18, 1, [15, 2, 29, 1]), (.getfield 166, 0, [14, 7, 0]), (.if_icmp .ge 7, 0, [34]), (.iconst 1, 1, []), (.goto 4, 0, [35])]
def s226_34 : List E := [(.iconst 0, 0, []), (.nop, 0, [35])]
def s226_35 : List E := [(.putfield 297, 0, [3, 0, 3]), (.iload_n 1, 0, [1]), (.aload_n 0, 0, [0]), (.getfield 18, 1, [15, 2, 29, 1]), (.getfield 166, 0, [14, 7, 0]), (.if_icmp .ge 20, 0, [66]), (.aload_n 0, 0, [0]), (.aload_n 0, 0, [0]), (.getfield 3, -417, [15, 10, 1, 1]), (.getfield 221, 7, [0, 6, 5, 1]), (.getfield 294, 2, [2, 1, 93, 1]), (.iload_n 1, 0, [1]), (.aaload, 0, [46, 6]), (.iload_n 1, 0, [1]), (.invokevirtual 251, 0, [225, 15, 31, 8, 0, 100, 0, 9]), (.nop, 0, [66])]
def s226_66 : List E := [(.iinc 1 1, 1, [1]), (.goto (-67), 0, [2])]
def s226_72 : List E := [(.return_, 0, [])]
def cd226 : List (Nat × List E) := [(0, s226_0), (2, s226_2), (34, s226_34), (35, s226_35), (66, s226_66), (72, s226_72)]
theorem l226_0 : lkc cd226 0 = s226_0 := rfl
theorem l226_2 : lkc cd226 2 = s226_2 := rfl
theorem l226_34 : lkc cd226 34 = s226_34 := rfl
theorem l226_35 : lkc cd226 35 = s226_35 := rfl
theorem l226_66 : lkc cd226 66 = s226_66 := rfl
theorem l226_72 : lkc cd226 72 = s226_72 := rfl
theorem k226 : chkM 226 15 true cd226 = true := by decide +kernel
/- Mode.last(I)I -/
def s521_0 : List E := [(.iload_n 0, 0, [0]), (.sipush 192, 192, []), (.if_icmp .lt 9, 0, [13]), (.iconst 2, 2, []), (.iload_n 0, 0, [0]), (.iconst 2, 2, []), (.irem, 0, []), (.iadd, 0, []), (.ireturn, 0, [])]
def s521_13 : List E := [(.iload_n 0, 0, [0]), (.sipush 128, 128, []), (.if_icmp .lt 7, 0, [24]), (.iload_n 0, 0, [0]), (.iconst 2, 2, []), (.irem, 0, []), (.ireturn, 0, [])]
def s521_24 : List E := [(.iload_n 0, 0, [0]), (.i2l, 0, []), (.ldc2_w 43, 48, []), (.ldc2_w 45, 57, []), (.invokestatic 47, 0, [38, 162, 0, 3, 5, 5, 5]), (.ifCond .eq 6, 0, [41]), (.bipush 44, 44, []), (.ireturn, 0, [])]
def s521_41 : List E := [(.iload_n 0, 0, [0]), (.i2l, 0, []), (.ldc2_w 53, 65, []), (.ldc2_w 55, 90, []), (.invokestatic 47, 0, [38, 162, 0, 3, 5, 5, 5]), (.ifCond .eq 18, 0, [70]), (.iload_n 0, 0, [0]), (.invokestatic 57, 0, [522, 8, 0, 3, 0]), (.ifCond .eq 8, 0, [67]), (.bipush 48, 48, []), (.goto 5, 0, [69])]
def s521_67 : List E := [(.bipush 52, 52, []), (.nop, 0, [69])]
def s521_69 : List E := [(.ireturn, 0, [])]
def s521_70 : List E := [(.iload_n 0, 0, [0]), (.i2l, 0, []), (.ldc2_w 61, 97, []), (.ldc2_w 63, 122, []), (.invokestatic 47, 0, [38, 162, 0, 3, 5, 5, 5]), (.ifCond .eq 18, 0, [99]), (.iload_n 0, 0, [0]), (.invokestatic 57, 0, [522, 8, 0, 3, 0]), (.ifCond .eq 8, 0, [96]), (.bipush 56, 56, []), (.goto 5, 0, [98])]
def s521_96 : List E := [(.bipush 60, 60, []), (.nop, 0, [98])]
def s521_98 : List E := [(.ireturn, 0, [])]
def s521_99 : List E := [(.iload_n 0, 0, [0]), (.lookupswitch 198 #[(9, 172), (10, 172), (13, 172), (32, 174), (34, 177), (37, 180), (39, 177), (40, 183), (41, 186), (44, 189), (46, 192), (58, 189), (59, 189), (60, 183), (61, 195), (62, 186), (91, 183), (93, 186), (123, 183), (125, 186)], 0, [298, 272, 272, 272, 274, 277, 280, 277, 283, 286, 289, 292, 289, 289, 283, 295, 286, 283, 286, 283, 286])]
def s521_272 : List E := [(.iconst 4, 4, []), (.ireturn, 0, [])]
def s521_274 : List E := [(.bipush 8, 8, []), (.ireturn, 0, [])]
def s521_277 : List E := [(.bipush 16, 16, []), (.ireturn, 0, [])]
def s521_280 : List E := [(.bipush 20, 20, []), (.ireturn, 0, [])]
def s521_283 : List E := [(.bipush 24, 24, []), (.ireturn, 0, [])]
def s521_286 : List E := [(.bipush 28, 28, []), (.ireturn, 0, [])]
def s521_289 : List E := [(.bipush 32, 32, []), (.ireturn, 0, [])]
def s521_292 : List E := [(.bipush 36, 36, []), (.ireturn, 0, [])]
def s521_295 : List E := [(.bipush 40, 40, []), (.ireturn, 0, [])]
def s521_298 : List E := [(.iload_n 0, 0, [0]), (.i2l, 0, []), (.ldc2_w 65, 33, []), (.ldc2_w 67, 126, []), (.invokestatic 47, 0, [38, 162, 0, 3, 5, 5, 5]), (.ifCond .eq 8, 0, [317]), (.bipush 12, 12, []), (.goto 4, 0, [318])]
def s521_317 : List E := [(.iconst 0, 0, []), (.nop, 0, [318])]
def s521_318 : List E := [(.ireturn, 0, [])]
def cd521 : List (Nat × List E) := [(0, s521_0), (13, s521_13), (24, s521_24), (41, s521_41), (67, s521_67), (69, s521_69), (70, s521_70), (96, s521_96), (98, s521_98), (99, s521_99), (272, s521_272), (274, s521_274), (277, s521_277), (280, s521_280), (283, s521_283), (286, s521_286), (289, s521_289), (292, s521_292), (295, s521_295), (298, s521_298), (317, s521_317), (318, s521_318)]
theorem l521_0 : lkc cd521 0 = s521_0 := rfl
theorem l521_13 : lkc cd521 13 = s521_13 := rfl
theorem l521_24 : lkc cd521 24 = s521_24 := rfl
theorem l521_41 : lkc cd521 41 = s521_41 := rfl
theorem l521_67 : lkc cd521 67 = s521_67 := rfl
theorem l521_69 : lkc cd521 69 = s521_69 := rfl
theorem l521_70 : lkc cd521 70 = s521_70 := rfl
theorem l521_96 : lkc cd521 96 = s521_96 := rfl
theorem l521_98 : lkc cd521 98 = s521_98 := rfl
theorem l521_99 : lkc cd521 99 = s521_99 := rfl
theorem l521_272 : lkc cd521 272 = s521_272 := rfl
theorem l521_274 : lkc cd521 274 = s521_274 := rfl
theorem l521_277 : lkc cd521 277 = s521_277 := rfl
theorem l521_280 : lkc cd521 280 = s521_280 := rfl
theorem l521_283 : lkc cd521 283 = s521_283 := rfl
theorem l521_286 : lkc cd521 286 = s521_286 := rfl
theorem l521_289 : lkc cd521 289 = s521_289 := rfl
theorem l521_292 : lkc cd521 292 = s521_292 := rfl
theorem l521_295 : lkc cd521 295 = s521_295 := rfl
theorem l521_298 : lkc cd521 298 = s521_298 := rfl
theorem l521_317 : lkc cd521 317 = s521_317 := rfl
theorem l521_318 : lkc cd521 318 = s521_318 := rfl
theorem k521 : chkM 521 18 true cd521 = true := by decide +kernel
/- Mode.before(I)I -/
def s523_0 : List E := [(.iload_n 0, 0, [0]), (.sipush 192, 192, []), (.if_icmp .ge 31, 0, [35]), (.iload_n 0, 0, [0]), (.i2l, 0, []), (.ldc2_w 43, 48, []), (.ldc2_w 45, 57, []), (.invokestatic 47, 0, [38, 8, 0, 3, 5, 5, 5]), (.ifCond .ne 17, 0, [35]), (.iload_n 0, 0, [0]), (.i2l, 0, []), (.ldc2_w 53, 65, []), (.ldc2_w 55, 90, []), (.invokestatic 47, 0, [38, 8, 0, 3, 5, 5, 5]), (.ifCond .eq 5, 0, [37]), (.nop, 0, [35])]
def s523_35 : List E := [(.iconst 2, 2, []), (.ireturn, 0, [])]
def s523_37 : List E := [(.iload_n 0, 0, [0]), (.i2l, 0, []), (.ldc2_w 61, 97, []), (.ldc2_w 63, 122, []), (.invokestatic 47, 0, [38, 8, 0, 3, 5, 5, 5]), (.ifCond .eq 5, 0, [53]), (.iconst 3, 3, []), (.ireturn, 0, [])]
def s523_53 : List E := [(.iload_n 0, 0, [0]), (.i2l, 0, []), (.ldc2_w 65, 33, []), (.ldc2_w 67, 126, []), (.invokestatic 47, 0, [38, 8, 0, 3, 5, 5, 5]), (.ifCond .eq 7, 0, [71]), (.iconst 1, 1, []), (.goto 4, 0, [72])]
def s523_71 : List E := [(.iconst 0, 0, []), (.nop, 0, [72])]
def s523_72 : List E := [(.ireturn, 0, [])]
def cd523 : List (Nat × List E) := [(0, s523_0), (35, s523_35), (37, s523_37), (53, s523_53), (71, s523_71), (72, s523_72)]
theorem l523_0 : lkc cd523 0 = s523_0 := rfl
theorem l523_35 : lkc cd523 35 = s523_35 := rfl
theorem l523_37 : lkc cd523 37 = s523_37 := rfl
theorem l523_53 : lkc cd523 53 = s523_53 := rfl
theorem l523_71 : lkc cd523 71 = s523_71 := rfl
theorem l523_72 : lkc cd523 72 = s523_72 := rfl
theorem k523 : chkM 523 18 true cd523 = true := by decide +kernel
/- Mode.size(I)I -/
def s524_0 : List E := [(.iload_n 0, 0, [0]), (.ifCond .ne 7, 0, [8]), (.iconst 0, 0, []), (.goto 70, 0, [75])]
def s524_8 : List E := [(.iload_n 0, 0, [0]), (.bipush 16, 16, []), (.if_icmp .ge 7, 0, [18]), (.iconst 1, 1, []), (.goto 60, 0, [75])]
def s524_18 : List E := [(.iload_n 0, 0, [0]), (.bipush 64, 64, []), (.if_icmp .ge 7, 0, [28]), (.iconst 2, 2, []), (.goto 50, 0, [75])]
def s524_28 : List E := [(.iload_n 0, 0, [0]), (.sipush 128, 128, []), (.if_icmp .ge 7, 0, [39]), (.iconst 3, 3, []), (.goto 39, 0, [75])]
def s524_39 : List E := [(.iload_n 0, 0, [0]), (.sipush 192, 192, []), (.if_icmp .ge 7, 0, [50]), (.iconst 4, 4, []), (.goto 28, 0, [75])]
def s524_50 : List E := [(.iload_n 0, 0, [0]), (.sipush 240, 240, []), (.if_icmp .ge 7, 0, [61]), (.iconst 5, 5, []), (.goto 17, 0, [75])]
def s524_61 : List E := [(.iload_n 0, 0, [0]), (.sipush 255, 255, []), (.if_icmp .ge 8, 0, [73]), (.bipush 6, 6, []), (.goto 5, 0, [75])]
def s524_73 : List E := [(.bipush 7, 7, []), (.nop, 0, [75])]
def s524_75 : List E := [(.ireturn, 0, [])]
def cd524 : List (Nat × List E) := [(0, s524_0), (8, s524_8), (18, s524_18), (28, s524_28), (39, s524_39), (50, s524_50), (61, s524_61), (73, s524_73), (75, s524_75)]
theorem l524_0 : lkc cd524 0 = s524_0 := rfl
theorem l524_8 : lkc cd524 8 = s524_8 := rfl
theorem l524_18 : lkc cd524 18 = s524_18 := rfl
theorem l524_28 : lkc cd524 28 = s524_28 := rfl
theorem l524_39 : lkc cd524 39 = s524_39 := rfl
theorem l524_50 : lkc cd524 50 = s524_50 := rfl
theorem l524_61 : lkc cd524 61 = s524_61 := rfl
theorem l524_73 : lkc cd524 73 = s524_73 := rfl
theorem l524_75 : lkc cd524 75 = s524_75 := rfl
theorem k524 : chkM 524 18 true cd524 = true := by decide +kernel
/- Mode$1.of(II)I -/
def s471_0 : List E := [(.iload_n 1, 0, [1]), (.bipush 64, 64, []), (.irem, 0, []), (.ireturn, 0, [])]
def cd471 : List (Nat × List E) := [(0, s471_0)]
theorem l471_0 : lkc cd471 0 = s471_0 := rfl
theorem k471 : chkM 471 19 true cd471 = true := by decide +kernel
/- Mode$2.of(II)I -/
def s478_0 : List E := [(.iload_n 1, 0, [1]), (.iconst 4, 4, []), (.idiv, 0, []), (.ireturn, 0, [])]
def cd478 : List (Nat × List E) := [(0, s478_0)]
theorem l478_0 : lkc cd478 0 = s478_0 := rfl
theorem k478 : chkM 478 20 true cd478 = true := by decide +kernel
/- Mode$3.of(II)I -/
def s479_0 : List E := [(.iload_n 1, 0, [1]), (.invokestatic 7, 0, [521, 8, 0, 0, 0]), (.iload_n 2, 0, [2]), (.invokestatic 11, 0, [523, 162, 0, 0, 0]), (.iadd, 0, []), (.ireturn, 0, [])]
def cd479 : List (Nat × List E) := [(0, s479_0)]
theorem l479_0 : lkc cd479 0 = s479_0 := rfl
theorem k479 : chkM 479 21 true cd479 = true := by decide +kernel
/- Mode$4.of(II)I -/
def s480_0 : List E := [(.bipush 8, 8, []), (.iload_n 1, 0, [1]), (.invokestatic 7, 0, [524, 8, 0, 0, 0]), (.imul, 0, []), (.iload_n 2, 0, [2]), (.invokestatic 7, 0, [524, 8, 0, 0, 0]), (.iadd, 0, []), (.ireturn, 0, [])]
def cd480 : List (Nat × List E) := [(0, s480_0)]
theorem l480_0 : lkc cd480 0 = s480_0 := rfl
theorem k480 : chkM 480 22 true cd480 = true := by decide +kernel
/- java/lang/Math.min(II)I -/
def s0_0 : List E := [(.iload_n 0, 0, [0]), (.iload_n 1, 0, [1]), (.if_icmp .gt 7, 0, [9]), (.iload_n 0, 0, [0]), (.goto 4, 0, [10])]
def s0_9 : List E := [(.iload_n 1, 0, [1]), (.nop, 0, [10])]
def s0_10 : List E := [(.ireturn, 0, [])]
def cd0 : List (Nat × List E) := [(0, s0_0), (9, s0_9), (10, s0_10)]
theorem l0_0 : lkc cd0 0 = s0_0 := rfl
theorem l0_9 : lkc cd0 9 = s0_9 := rfl
theorem l0_10 : lkc cd0 10 = s0_10 := rfl
theorem k0 : chkM 0 23 true cd0 = true := by decide +kernel
/- java/lang/Math.max(II)I -/
def s1_0 : List E := [(.iload_n 0, 0, [0]), (.iload_n 1, 0, [1]), (.if_icmp .lt 7, 0, [9]), (.iload_n 0, 0, [0]), (.goto 4, 0, [10])]
def s1_9 : List E := [(.iload_n 1, 0, [1]), (.nop, 0, [10])]
def s1_10 : List E := [(.ireturn, 0, [])]
def cd1 : List (Nat × List E) := [(0, s1_0), (9, s1_9), (10, s1_10)]
theorem l1_0 : lkc cd1 0 = s1_0 := rfl
theorem l1_9 : lkc cd1 9 = s1_9 := rfl
theorem l1_10 : lkc cd1 10 = s1_10 := rfl
theorem k1 : chkM 1 23 true cd1 = true := by decide +kernel
/- java/lang/Math.max(JJ)J -/
def s2_0 : List E := [(.lload_n 0, 0, [0]), (.lload_n 2, 0, [2]), (.lcmp, 0, []), (.ifCond .lt 7, 0, [10]), (.lload_n 0, 0, [0]), (.goto 4, 0, [11])]
def s2_10 : List E := [(.lload_n 2, 0, [2]), (.nop, 0, [11])]
def s2_11 : List E := [(.lreturn, 0, [])]
def cd2 : List (Nat × List E) := [(0, s2_0), (10, s2_10), (11, s2_11)]
theorem l2_0 : lkc cd2 0 = s2_0 := rfl
theorem l2_10 : lkc cd2 10 = s2_10 := rfl
theorem l2_11 : lkc cd2 11 = s2_11 := rfl
theorem k2 : chkM 2 23 true cd2 = true := by decide +kernel
/- java/lang/Math.min(JJ)J -/
def s3_0 : List E := [(.lload_n 0, 0, [0]), (.lload_n 2, 0, [2]), (.lcmp, 0, []), (.ifCond .gt 7, 0, [10]), (.lload_n 0, 0, [0]), (.goto 4, 0, [11])]
def s3_10 : List E := [(.lload_n 2, 0, [2]), (.nop, 0, [11])]
def s3_11 : List E := [(.lreturn, 0, [])]
def cd3 : List (Nat × List E) := [(0, s3_0), (10, s3_10), (11, s3_11)]
theorem l3_0 : lkc cd3 0 = s3_0 := rfl
theorem l3_10 : lkc cd3 10 = s3_10 := rfl
theorem l3_11 : lkc cd3 11 = s3_11 := rfl
theorem k3 : chkM 3 23 true cd3 = true := by decide +kernel
/- java/lang/Math.abs(I)I -/
def s4_0 : List E := [(.iload_n 0, 0, [0]), (.ifCond .ge 8, 0, [9]), (.iload_n 0, 0, [0]), (.ineg, 0, []), (.goto 4, 0, [10])]
def s4_9 : List E := [(.iload_n 0, 0, [0]), (.nop, 0, [10])]
def s4_10 : List E := [(.ireturn, 0, [])]
def cd4 : List (Nat × List E) := [(0, s4_0), (9, s4_9), (10, s4_10)]
theorem l4_0 : lkc cd4 0 = s4_0 := rfl
theorem l4_9 : lkc cd4 9 = s4_9 := rfl
theorem l4_10 : lkc cd4 10 = s4_10 := rfl
theorem k4 : chkM 4 23 true cd4 = true := by decide +kernel
/- java/lang/Integer.numberOfLeadingZeros(I)I -/
def s31_0 : List E := [(.iload_n 0, 0, [0]), (.ifCond .gt 14, 0, [15]), (.iload_n 0, 0, [0]), (.ifCond .ne 8, 0, [13]), (.bipush 32, 32, []), (.goto 4, 0, [14])]
def s31_13 : List E := [(.iconst 0, 0, []), (.nop, 0, [14])]
def s31_14 : List E := [(.ireturn, 0, [])]
def s31_15 : List E := [(.bipush 31, 31, []), (.istore_n 1, 0, [1]), (.iload_n 0, 0, [0]), (.ldc_w 264, 65536, []), (.if_icmp .lt 11, 0, [33]), (.iinc 1 (-16), -16, [1]), (.iload_n 0, 0, [0]), (.bipush 16, 16, []), (.iushr, 0, []), (.istore_n 0, 0, [0]), (.nop, 0, [33])]
def s31_33 : List E := [(.iload_n 0, 0, [0]), (.sipush 256, 256, []), (.if_icmp .lt 11, 0, [48]), (.iinc 1 (-8), -8, [1]), (.iload_n 0, 0, [0]), (.bipush 8, 8, []), (.iushr, 0, []), (.istore_n 0, 0, [0]), (.nop, 0, [48])]
def s31_48 : List E := [(.iload_n 0, 0, [0]), (.bipush 16, 16, []), (.if_icmp .lt 10, 0, [61]), (.iinc 1 (-4), -4, [1]), (.iload_n 0, 0, [0]), (.iconst 4, 4, []), (.iushr, 0, []), (.istore_n 0, 0, [0]), (.nop, 0, [61])]
def s31_61 : List E := [(.iload_n 0, 0, [0]), (.iconst 4, 4, []), (.if_icmp .lt 10, 0, [73]), (.iinc 1 (-2), -2, [1]), (.iload_n 0, 0, [0]), (.iconst 2, 2, []), (.iushr, 0, []), (.istore_n 0, 0, [0]), (.nop, 0, [73])]
def s31_73 : List E := [(.iload_n 1, 0, [1]), (.iload_n 0, 0, [0]), (.iconst 1, 1, []), (.iushr, 0, []), (.isub, 0, []), (.ireturn, 0, [])]
def cd31 : List (Nat × List E) := [(0, s31_0), (13, s31_13), (14, s31_14), (15, s31_15), (33, s31_33), (48, s31_48), (61, s31_61), (73, s31_73)]
theorem l31_0 : lkc cd31 0 = s31_0 := rfl
theorem l31_13 : lkc cd31 13 = s31_13 := rfl
theorem l31_14 : lkc cd31 14 = s31_14 := rfl
theorem l31_15 : lkc cd31 15 = s31_15 := rfl
theorem l31_33 : lkc cd31 33 = s31_33 := rfl
theorem l31_48 : lkc cd31 48 = s31_48 := rfl
theorem l31_61 : lkc cd31 61 = s31_61 := rfl
theorem l31_73 : lkc cd31 73 = s31_73 := rfl
theorem k31 : chkM 31 24 true cd31 = true := by decide +kernel
/- FontHouseModel.<init>()V -/
def s227_0 : List E := [(.aload_n 0, 0, [0]), (.invokespecial 1, 0, [8]), (.aload_n 0, 0, [0]), (.ldc 7, 64000, []), (.newarray .byte, 0, [41, 83]), (.putfield 8, 0, [16, 0, 47]), (.aload_n 0, 0, [0]), (.iconst 4, 4, []), (.newarray .int, 0, [40, 81]), (.putfield 14, 0, [16, 1, 46]), (.aload_n 0, 0, [0]), (.iconst (-1), -1, []), (.putfield 18, 0, [16, 3, 0]), (.aload_n 0, 0, [0]), (.sipush 16000, 16000, []), (.newarray .byte, 0, [41, 83]), (.putfield 22, 0, [16, 4, 47]), (.aload_n 0, 0, [0]), (.sipush 16000, 16000, []), (.newarray .byte, 0, [41, 83]), (.putfield 25, 0, [16, 7, 47]), (.aload_n 0, 0, [0]), (.bipush 11, 11, []), (.newarray .int, 0, [40, 81]), (.putfield 28, 0, [16, 9, 46]), (.aload_n 0, 0, [0]), (.sipush 12400, 12400, []), (.newarray .int, 0, [40, 81]), (.putfield 31, 0, [16, 11, 46]), (.aload_n 0, 0, [0]), (.ldc 34, 384000, []), (.newarray .short, 0, [42, 85]), (.putfield 35, 0, [16, 12, 48]), (.aload_n 0, 0, [0]), (.sipush 1024, 1024, []), (.newarray .int, 0, [40, 81]), (.putfield 39, 0, [16, 13, 46]), (.aload_n 0, 0, [0]), (.bipush 18, 18, []), (.newarray .int, 0, [40, 81]), (.putfield 42, 0, [16, 14, 46]), (.aload_n 0, 0, [0]), (.iconst 4, 4, []), (.newarray .int, 0, [40, 81]), (.putfield 45, 0, [16, 15, 46]), (.aload_n 0, 0, [0]), (.iconst 3, 3, []), (.newarray .int, 0, [40, 81]), (.putfield 48, 0, [16, 16, 46]), (.aload_n 0, 0, [0]), (.iconst 3, 3, []), (.newarray .int, 0, [40, 81]), (.putfield 51, 0, [16, 17, 46]), (.aload_n 0, 0, [0]), (.iconst 3, 3, []), (.newarray .int, 0, [40, 81]), (.putfield 54, 0, [16, 18, 46]), (.aload_n 0, 0, [0]), (.iconst 3, 3, []), (.newarray .int, 0, [40, 81]), (.putfield 57, 0, [16, 19, 46]), (.aload_n 0, 0, [0]), (.sipush 256, 256, []), (.newarray .int, 0, [40, 81]), (.putfield 60, 0, [16, 20, 46]), (.aload_n 0, 0, [0]), (.sipush 16384, 16384, []), (.newarray .int, 0, [40, 81]), (.putfield 63, 0, [16, 21, 46]), (.aload_n 0, 0, [0]), (.sipush 1024, 1024, []), (.newarray .int, 0, [40, 81]), (.putfield 66, 0, [16, 22, 46]), (.aload_n 0, 0, [0]), (.sipush 256, 256, []), (.newarray .int, 0, [40, 81]), (.putfield 69, 0, [16, 23, 46]), (.aload_n 0, 0, [0]), (.iconst 4, 4, []), (.newarray .int, 0, [40, 81]), (.putfield 72, 0, [16, 24, 46]), (.aload_n 0, 0, [0]), (.sipush 16000, 16000, []), (.newarray .byte, 0, [41, 83]), (.putfield 75, 0, [16, 28, 47]), (.aload_n 0, 0, [0]), (.sipush 20000, 20000, []), (.newarray .byte, 0, [41, 83]), (.putfield 78, 0, [16, 30, 47]), (.aload_n 0, 0, [0]), (.sipush 4097, 4097, []), (.newarray .int, 0, [40, 81]), (.putfield 81, 0, [16, 34, 46]), (.aload_n 0, 0, [0]), (.sipush 4097, 4097, []), (.newarray .int, 0, [40, 81]), (.putfield 84, 0, [16, 35, 46]), (.aload_n 0, 0, [0]), (.sipush 4097, 4097, []), (.newarray .int, 0, [40, 81]), (.putfield 87, 0, [16, 36, 46]), (.aload_n 0, 0, [0]), (.sipush 4097, 4097, []), (.newarray .int, 0, [40, 81]), (.putfield 90, 0, [16, 37, 46]), (.aload_n 0, 0, [0]), (.sipush 5632, 5632, []), (.newarray .int, 0, [40, 81]), (.putfield 93, 0, [16, 38, 46]), (.aload_n 0, 0, [0]), (.sipush 5632, 5632, []), (.newarray .int, 0, [40, 81]), (.putfield 96, 0, [16, 39, 46]), (.aload_n 0, 0, [0]), (.sipush 5632, 5632, []), (.newarray .int, 0, [40, 81]), (.putfield 99, 0, [16, 40, 46]), (.aload_n 0, 0, [0]), (.sipush 1408, 1408, []), (.newarray .long, 0, [43, 87]), (.putfield 102, 0, [16, 41, 49]), (.aload_n 0, 0, [0]), (.sipush 1408, 1408, []), (.newarray .int, 0, [40, 81]), (.putfield 106, 0, [16, 42, 46]), (.aload_n 0, 0, [0]), (.sipush 1408, 1408, []), (.newarray .boolean, 0, [44, 89]), (.putfield 109, 0, [16, 43, 50]), (.aload_n 0, 0, [0]), (.sipush 1500, 1500, []), (.newarray .int, 0, [40, 81]), (.putfield 113, 0, [16, 44, 46]), (.aload_n 0, 0, [0]), (.sipush 1500, 1500, []), (.newarray .int, 0, [40, 81]), (.putfield 116, 0, [16, 45, 46]), (.aload_n 0, 0, [0]), (.bipush 8, 8, []), (.newarray .int, 0, [40, 81]), (.putfield 119, 0, [16, 47, 46]), (.aload_n 0, 0, [0]), (.ldc 122, 1440000, []), (.newarray .byte, 0, [41, 83]), (.putfield 123, 0, [16, 50, 47]), (.aload_n 0, 0, [0]), (.bipush 120, 120, []), (.newarray .int, 0, [40, 81]), (.putfield 126, 0, [16, 51, 46]), (.aload_n 0, 0, [0]), (.bipush 120, 120, []), (.newarray .boolean, 0, [44, 89]), (.putfield 129, 0, [16, 52, 50]), (.aload_n 0, 0, [0]), (.bipush 8, 8, []), (.newarray .boolean, 0, [44, 89]), (.putfield 132, 0, [16, 53, 50]), (.aload_n 0, 0, [0]), (.bipush 8, 8, []), (.newarray .int, 0, [40, 81]), (.putfield 135, 0, [16, 54, 46]), (.aload_n 0, 0, [0]), (.bipush 8, 8, []), (.newarray .int, 0, [40, 81]), (.putfield 138, 0, [16, 55, 46]), (.aload_n 0, 0, [0]), (.sipush 128, 128, []), (.newarray .long, 0, [43, 87]), (.putfield 141, 0, [16, 56, 49]), (.aload_n 0, 0, [0]), (.sipush 128, 128, []), (.newarray .int, 0, [40, 81]), (.putfield 144, 0, [16, 57, 46]), (.aload_n 0, 0, [0]), (.iconst 4, 4, []), (.newarray .int, 0, [40, 81]), (.putfield 147, 0, [16, 58, 46]), (.aload_n 0, 0, [0]), (.bipush 64, 64, []), (.newarray .int, 0, [40, 81]), (.putfield 150, 0, [16, 61, 46]), (.aload_n 0, 0, [0]), (.bipush 64, 64, []), (.newarray .int, 0, [40, 81]), (.putfield 153, 0, [16, 62, 46]), (.aload_n 0, 0, [0]), (.bipush 64, 64, []), (.newarray .long, 0, [43, 87]), (.putfield 156, 0, [16, 63, 49]), (.aload_n 0, 0, [0]), (.bipush 64, 64, []), (.newarray .int, 0, [40, 81]), (.putfield 159, 0, [16, 64, 46]), (.aload_n 0, 0, [0]), (.bipush 64, 64, []), (.newarray .int, 0, [40, 81]), (.putfield 162, 0, [16, 65, 46]), (.aload_n 0, 0, [0]), (.bipush 64, 64, []), (.newarray .int, 0, [40, 81]), (.putfield 165, 0, [16, 66, 46]), (.aload_n 0, 0, [0]), (.ldc 168, 131000, []), (.newarray .byte, 0, [41, 83]), (.putfield 169, 0, [16, 67, 47]), (.aload_n 0, 0, [0]), (.bipush 120, 120, []), (.newarray .int, 0, [40, 81]), (.putfield 172, 0, [16, 69, 46]), (.aload_n 0, 0, [0]), (.iconst 4, 4, []), (.newarray .int, 0, [40, 81]), (.putfield 175, 0, [16, 79, 46]), (.aload_n 0, 0, [0]), (.bipush 32, 32, []), (.newarray .int, 0, [40, 81]), (.putfield 178, 0, [16, 80, 46]), (.aload_n 0, 0, [0]), (.sipush 256, 256, []), (.newarray .int, 0, [40, 81]), (.putfield 181, 0, [16, 81, 46]), (.aload_n 0, 0, [0]), (.sipush 256, 256, []), (.newarray .int, 0, [40, 81]), (.putfield 184, 0, [16, 82, 46]), (.aload_n 0, 0, [0]), (.sipush 256, 256, []), (.newarray .boolean, 0, [44, 89]), (.putfield 187, 0, [16, 83, 50]), (.aload_n 0, 0, [0]), (.sipush 256, 256, []), (.newarray .int, 0, [40, 81]), (.putfield 190, 0, [16, 84, 46]), (.aload_n 0, 0, [0]), (.bipush 16, 16, []), (.newarray .int, 0, [40, 81]), (.putfield 193, 0, [16, 85, 46]), (.aload_n 0, 0, [0]), (.bipush 16, 16, []), (.newarray .int, 0, [40, 81]), (.putfield 196, 0, [16, 86, 46]), (.aload_n 0, 0, [0]), (.bipush 16, 16, []), (.newarray .int, 0, [40, 81]), (.putfield 199, 0, [16, 87, 46]), (.aload_n 0, 0, [0]), (.bipush 16, 16, []), (.newarray .int, 0, [40, 81]), (.putfield 202, 0, [16, 88, 46]), (.aload_n 0, 0, [0]), (.bipush 16, 16, []), (.newarray .int, 0, [40, 81]), (.putfield 205, 0, [16, 89, 46]), (.aload_n 0, 0, [0]), (.bipush 64, 64, []), (.newarray .int, 0, [40, 81]), (.putfield 208, 0, [16, 90, 46]), (.aload_n 0, 0, [0]), (.sipush 300, 300, []), (.newarray .byte, 0, [41, 83]), (.putfield 211, 0, [16, 91, 47]), (.aload_n 0, 0, [0]), (.sipush 20000, 20000, []), (.newarray .byte, 0, [41, 83]), (.putfield 214, 0, [16, 95, 47]), (.aload_n 0, 0, [0]), (.sipush 256, 256, []), (.newarray .int, 0, [40, 81]), (.putfield 217, 0, [16, 97, 46]), (.aload_n 0, 0, [0]), (.iconst 4, 4, []), (.newarray .int, 0, [40, 81]), (.putfield 220, 0, [16, 105, 46]), (.aload_n 0, 0, [0]), (.bipush 32, 32, []), (.newarray .int, 0, [40, 81]), (.putfield 223, 0, [16, 106, 46]), (.aload_n 0, 0, [0]), (.sipush 256, 256, []), (.newarray .int, 0, [40, 81]), (.putfield 226, 0, [16, 107, 46]), (.aload_n 0, 0, [0]), (.sipush 256, 256, []), (.newarray .int, 0, [40, 81]), (.putfield 229, 0, [16, 108, 46]), (.aload_n 0, 0, [0]), (.sipush 256, 256, []), (.newarray .boolean, 0, [44, 89]), (.putfield 232, 0, [16, 109, 50]), (.aload_n 0, 0, [0]), (.bipush 16, 16, []), (.newarray .int, 0, [40, 81]), (.putfield 235, 0, [16, 110, 46]), (.aload_n 0, 0, [0]), (.bipush 16, 16, []), (.newarray .int, 0, [40, 81]), (.putfield 238, 0, [16, 111, 46]), (.aload_n 0, 0, [0]), (.bipush 16, 16, []), (.newarray .int, 0, [40, 81]), (.putfield 241, 0, [16, 112, 46]), (.aload_n 0, 0, [0]), (.bipush 16, 16, []), (.newarray .int, 0, [40, 81]), (.putfield 244, 0, [16, 113, 46]), (.aload_n 0, 0, [0]), (.bipush 16, 16, []), (.newarray .int, 0, [40, 81]), (.putfield 247, 0, [16, 114, 46]), (.aload_n 0, 0, [0]), (.bipush 64, 64, []), (.newarray .int, 0, [40, 81]), (.putfield 250, 0, [16, 115, 46]), (.aload_n 0, 0, [0]), (.sipush 300, 300, []), (.newarray .byte, 0, [41, 83]), (.putfield 253, 0, [16, 116, 47]), (.aload_n 0, 0, [0]), (.bipush 41, 41, []), (.newarray .long, 0, [43, 87]), (.putfield 256, 0, [16, 122, 49]), (.aload_n 0, 0, [0]), (.bipush 41, 41, []), (.newarray .int, 0, [40, 81]), (.putfield 259, 0, [16, 123, 46]), (.aload_n 0, 0, [0]), (.bipush 41, 41, []), (.newarray .long, 0, [43, 87]), (.putfield 262, 0, [16, 124, 49]), (.aload_n 0, 0, [0]), (.bipush 41, 41, []), (.newarray .long, 0, [43, 87]), (.putfield 265, 0, [16, 125, 49]), (.aload_n 0, 0, [0]), (.bipush 41, 41, []), (.newarray .int, 0, [40, 81]), (.putfield 268, 0, [16, 126, 46]), (.aload_n 0, 0, [0]), (.bipush 64, 64, []), (.newarray .int, 0, [40, 81]), (.putfield 271, 0, [16, 127, 46]), (.aload_n 0, 0, [0]), (.bipush 64, 64, []), (.newarray .long, 0, [43, 87]), (.putfield 274, 0, [16, 129, 49]), (.aload_n 0, 0, [0]), (.bipush 64, 64, []), (.newarray .int, 0, [40, 81]), (.putfield 277, 0, [16, 130, 46]), (.aload_n 0, 0, [0]), (.bipush 64, 64, []), (.newarray .long, 0, [43, 87]), (.putfield 280, 0, [16, 131, 49]), (.aload_n 0, 0, [0]), (.bipush 64, 64, []), (.newarray .long, 0, [43, 87]), (.putfield 283, 0, [16, 132, 49]), (.aload_n 0, 0, [0]), (.bipush 64, 64, []), (.newarray .int, 0, [40, 81]), (.putfield 286, 0, [16, 133, 46]), (.aload_n 0, 0, [0]), (.bipush 64, 64, []), (.newarray .int, 0, [40, 81]), (.putfield 289, 0, [16, 134, 46]), (.aload_n 0, 0, [0]), (.sipush 128, 128, []), (.newarray .int, 0, [40, 81]), (.putfield 292, 0, [16, 135, 46]), (.aload_n 0, 0, [0]), (.ldc_w 295, 140000, []), (.newarray .byte, 0, [41, 83]), (.putfield 296, 0, [16, 136, 47]), (.aload_n 0, 0, [0]), (.bipush 7, 7, []), (.newarray .int, 0, [40, 81]), (.putfield 299, 0, [16, 137, 46]), (.aload_n 0, 0, [0]), (.iconst 4, 4, []), (.newarray .int, 0, [40, 81]), (.putfield 302, 0, [16, 138, 46]), (.aload_n 0, 0, [0]), (.iconst 4, 4, []), (.newarray .int, 0, [40, 81]), (.putfield 305, 0, [16, 142, 46]), (.aload_n 0, 0, [0]), (.iconst 4, 4, []), (.newarray .long, 0, [43, 87]), (.putfield 308, 0, [16, 143, 49]), (.aload_n 0, 0, [0]), (.bipush 64, 64, []), (.newarray .int, 0, [40, 81]), (.putfield 311, 0, [16, 144, 46]), (.aload_n 0, 0, [0]), (.bipush 41, 41, []), (.newarray .int, 0, [40, 81]), (.putfield 314, 0, [16, 145, 46]), (.aload_n 0, 0, [0]), (.bipush 41, 41, []), (.newarray .int, 0, [40, 81]), (.putfield 317, 0, [16, 146, 46]), (.aload_n 0, 0, [0]), (.bipush 7, 7, []), (.newarray .int, 0, [40, 81]), (.putfield 320, 0, [16, 147, 46]), (.aload_n 0, 0, [0]), (.bipush 7, 7, []), (.newarray .int, 0, [40, 81]), (.putfield 323, 0, [16, 148, 46]), (.aload_n 0, 0, [0]), (.bipush 65, 65, []), (.newarray .int, 0, [40, 81]), (.putfield 326, 0, [16, 151, 46]), (.return_, 0, [])]
def cd227 : List (Nat × List E) := [(0, s227_0)]
theorem l227_0 : lkc cd227 0 = s227_0 := rfl
theorem k227 : chkM 227 16 false cd227 = true := by decide +kernel
/- FontHouseModel.put(IJI)I -/
def s228_0 : List E := [(.iload_n 1, 0, [1]), (.invokestatic 329, 0, [229, 8, 0, 3, 0]), (.ifCond .ne 5, 0, [9]), (.iconst (-1), -1, []), (.ireturn, 0, [])]
def s228_9 : List E := [(.iload 4, 0, [4]), (.ifCond .lt 10, 0, [21]), (.iload 4, 0, [4]), (.bipush 8, 8, []), (.if_icmp .le 6, 0, [24]), (.nop, 0, [21])]
def s228_21 : List E := [(.bipush (-2), -2, []), (.ireturn, 0, [])]
def s228_24 : List E := [(.iload 4, 0, [4]), (.ifCond .ne 12, 0, [38]), (.aload_n 0, 0, [0]), (.getfield 14, 2, [16, 1, 81, 1]), (.iload_n 1, 0, [1]), (.iconst 0, 0, []), (.iastore, 0, []), (.iconst 0, 0, []), (.ireturn, 0, [])]
def s228_38 : List E := [(.aload_n 0, 0, [0]), (.getfield 14, 2, [16, 1, 81, 1]), (.iload_n 1, 0, [1]), (.iaload, 0, []), (.iload 4, 0, [4]), (.iadd, 0, []), (.sipush 16000, 16000, []), (.if_icmp .le 6, 0, [56]), (.bipush (-4), -4, []), (.ireturn, 0, [])]
def s228_56 : List E := [(.iload 4, 0, [4]), (.iconst 1, 1, []), (.isub, 0, []), (.istore 5, 0, [5]), (.nop, 0, [62])]
def s228_62 : List E := [(.iload 5, 0, [5]), (.ifCond .lt 45, 0, [109]), (.aload_n 0, 0, [0]), (.getfield 8, 1, [16, 0, 83, 1]), (.sipush 16000, 16000, []), (.iload_n 1, 0, [1]), (.imul, 0, []), (.aload_n 0, 0, [0]), (.getfield 14, 2, [16, 1, 81, 1]), (.iload_n 1, 0, [1]), (.iaload, 0, []), (.iadd, 0, []), (.lload_n 2, 0, [2]), (.bipush 8, 8, []), (.iload 5, 0, [5]), (.imul, 0, []), (.lshr, 0, []), (.l2i, 0, []), (.i2b, 0, []), (.bastore, 0, [41]), (.aload_n 0, 0, [0]), (.getfield 14, 2, [16, 1, 81, 1]), (.iload_n 1, 0, [1]), (.dup2, 0, []), (.iaload, 0, []), (.iconst 1, 1, []), (.iadd, 0, []), (.iastore, 0, []), (.iinc 5 (-1), -1, [5]), (.goto (-44), 0, [62])]
def s228_109 : List E := [(.aload_n 0, 0, [0]), (.getfield 14, 2, [16, 1, 81, 1]), (.iload_n 1, 0, [1]), (.iaload, 0, []), (.ireturn, 0, [])]
def cd228 : List (Nat × List E) := [(0, s228_0), (9, s228_9), (21, s228_21), (24, s228_24), (38, s228_38), (56, s228_56), (62, s228_62), (109, s228_109)]
theorem l228_0 : lkc cd228 0 = s228_0 := rfl
theorem l228_9 : lkc cd228 9 = s228_9 := rfl
theorem l228_21 : lkc cd228 21 = s228_21 := rfl
theorem l228_24 : lkc cd228 24 = s228_24 := rfl
theorem l228_38 : lkc cd228 38 = s228_38 := rfl
theorem l228_56 : lkc cd228 56 = s228_56 := rfl
theorem l228_62 : lkc cd228 62 = s228_62 := rfl
theorem l228_109 : lkc cd228 109 = s228_109 := rfl
theorem k228 : chkM 228 16 true cd228 = true := by decide +kernel
/- FontHouseModel.isRow(I)Z -/
def s229_0 : List E := [(.iload_n 0, 0, [0]), (.ifCond .lt 12, 0, [13]), (.iload_n 0, 0, [0]), (.iconst 4, 4, []), (.if_icmp .ge 7, 0, [13]), (.iconst 1, 1, []), (.goto 4, 0, [14])]
def s229_13 : List E := [(.iconst 0, 0, []), (.nop, 0, [14])]
def s229_14 : List E := [(.ireturn, 0, [1])]
def cd229 : List (Nat × List E) := [(0, s229_0), (13, s229_13), (14, s229_14)]
theorem l229_0 : lkc cd229 0 = s229_0 := rfl
theorem l229_13 : lkc cd229 13 = s229_13 := rfl
theorem l229_14 : lkc cd229 14 = s229_14 := rfl
theorem k229 : chkM 229 16 true cd229 = true := by decide +kernel
/- FontHouseModel.fill(IIII)I -/
def s230_0 : List E := [(.iload_n 1, 0, [1]), (.invokestatic 329, 0, [229, 8, 0, 3, 0]), (.ifCond .ne 5, 0, [9]), (.iconst (-1), -1, []), (.ireturn, 0, [])]
def s230_9 : List E := [(.iload_n 2, 0, [2]), (.ifCond .lt 15, 0, [25]), (.iload 4, 0, [4]), (.ifCond .lt 10, 0, [25]), (.iload 4, 0, [4]), (.bipush 7, 7, []), (.if_icmp .le 6, 0, [28]), (.nop, 0, [25])]
def s230_25 : List E := [(.bipush (-2), -2, []), (.ireturn, 0, [])]
def s230_28 : List E := [(.iload_n 2, 0, [2]), (.sipush 16000, 16000, []), (.aload_n 0, 0, [0]), (.getfield 14, 2, [16, 1, 81, 1]), (.iload_n 1, 0, [1]), (.iaload, 0, []), (.isub, 0, []), (.if_icmp .le 6, 0, [45]), (.bipush (-4), -4, []), (.ireturn, 0, [])]
def s230_45 : List E := [(.iload_n 3, 0, [3]), (.istore 5, 0, [5]), (.iconst 0, 0, []), (.istore 6, 0, [6]), (.nop, 0, [51])]
def s230_51 : List E := [(.iload 6, 0, [6]), (.iload_n 2, 0, [2]), (.if_icmp .ge 57, 0, [111]), (.iload 5, 0, [5]), (.ldc_w 333, 1664525, []), (.imul, 0, [1]), (.ldc_w 334, 1013904223, []), (.iadd, 0, [1]), (.istore 5, 0, [5]), (.aload_n 0, 0, [0]), (.getfield 8, 1, [16, 0, 83, 1]), (.sipush 16000, 16000, []), (.iload_n 1, 0, [1]), (.imul, 0, []), (.aload_n 0, 0, [0]), (.getfield 14, 2, [16, 1, 81, 1]), (.iload_n 1, 0, [1]), (.iaload, 0, []), (.iadd, 0, []), (.iload 5, 0, [5]), (.bipush 24, 24, []), (.iushr, 0, []), (.iload 4, 0, [4]), (.iushr, 0, []), (.i2b, 0, []), (.bastore, 0, [41]), (.aload_n 0, 0, [0]), (.getfield 14, 2, [16, 1, 81, 1]), (.iload_n 1, 0, [1]), (.dup2, 0, []), (.iaload, 0, []), (.iconst 1, 1, []), (.iadd, 0, []), (.iastore, 0, []), (.iinc 6 1, 1, [6]), (.goto (-57), 0, [51])]
def s230_111 : List E := [(.aload_n 0, 0, [0]), (.getfield 14, 2, [16, 1, 81, 1]), (.iload_n 1, 0, [1]), (.iaload, 0, []), (.ireturn, 0, [])]
def cd230 : List (Nat × List E) := [(0, s230_0), (9, s230_9), (25, s230_25), (28, s230_28), (45, s230_45), (51, s230_51), (111, s230_111)]
theorem l230_0 : lkc cd230 0 = s230_0 := rfl
theorem l230_9 : lkc cd230 9 = s230_9 := rfl
theorem l230_25 : lkc cd230 25 = s230_25 := rfl
theorem l230_28 : lkc cd230 28 = s230_28 := rfl
theorem l230_45 : lkc cd230 45 = s230_45 := rfl
theorem l230_51 : lkc cd230 51 = s230_51 := rfl
theorem l230_111 : lkc cd230 111 = s230_111 := rfl
theorem k230 : chkM 230 16 true cd230 = true := by decide +kernel
/- FontHouseModel.size(I)I -/
def s231_0 : List E := [(.iload_n 1, 0, [1]), (.invokestatic 329, 0, [229, 8, 0, 3, 0]), (.ifCond .eq 12, 0, [16]), (.aload_n 0, 0, [0]), (.getfield 14, 2, [16, 1, 81, 1]), (.iload_n 1, 0, [1]), (.iaload, 0, []), (.goto 4, 0, [17])]
def s231_16 : List E := [(.iconst (-1), -1, []), (.nop, 0, [17])]
def s231_17 : List E := [(.ireturn, 0, [])]
def cd231 : List (Nat × List E) := [(0, s231_0), (16, s231_16), (17, s231_17)]
theorem l231_0 : lkc cd231 0 = s231_0 := rfl
theorem l231_16 : lkc cd231 16 = s231_16 := rfl
theorem l231_17 : lkc cd231 17 = s231_17 := rfl
theorem k231 : chkM 231 16 true cd231 = true := by decide +kernel
/- FontHouseModel.at(II)I -/
def s232_0 : List E := [(.iload_n 1, 0, [1]), (.invokestatic 329, 0, [229, 10, 0, 3, 0]), (.ifCond .ne 7, 0, [11]), (.iconst (-1), -1, []), (.goto 28, 0, [36])]
def s232_11 : List E := [(.iload_n 2, 0, [2]), (.ifCond .lt 13, 0, [25]), (.iload_n 2, 0, [2]), (.aload_n 0, 0, [0]), (.getfield 14, 2, [16, 1, 81, 1]), (.iload_n 1, 0, [1]), (.iaload, 0, []), (.if_icmp .lt 8, 0, [30]), (.nop, 0, [25])]
def s232_25 : List E := [(.bipush (-2), -2, []), (.goto 9, 0, [36])]
def s232_30 : List E := [(.aload_n 0, 0, [0]), (.iload_n 1, 0, [1]), (.iload_n 2, 0, [2]), (.invokevirtual 335, 0, [233, 16, 33, 8, 0, 0, 0, 0]), (.nop, 0, [36])]
def s232_36 : List E := [(.ireturn, 0, [])]
def cd232 : List (Nat × List E) := [(0, s232_0), (11, s232_11), (25, s232_25), (30, s232_30), (36, s232_36)]
theorem l232_0 : lkc cd232 0 = s232_0 := rfl
theorem l232_11 : lkc cd232 11 = s232_11 := rfl
theorem l232_25 : lkc cd232 25 = s232_25 := rfl
theorem l232_30 : lkc cd232 30 = s232_30 := rfl
theorem l232_36 : lkc cd232 36 = s232_36 := rfl
theorem k232 : chkM 232 16 true cd232 = true := by decide +kernel
/- FontHouseModel.byteOf(II)I -/
def s233_0 : List E := [(.aload_n 0, 0, [0]), (.getfield 8, 1, [16, 0, 83, 1]), (.sipush 16000, 16000, []), (.iload_n 1, 0, [1]), (.imul, 0, []), (.iload_n 2, 0, [2]), (.iadd, 0, []), (.baload, 0, [41]), (.sipush 255, 255, []), (.iand, 0, []), (.ireturn, 0, [])]
def cd233 : List (Nat × List E) := [(0, s233_0)]
theorem l233_0 : lkc cd233 0 = s233_0 := rfl
theorem k233 : chkM 233 16 true cd233 = true := by decide +kernel
/- FontHouseModel.set(III)I -/
def s234_0 : List E := [(.iload_n 1, 0, [1]), (.invokestatic 329, 0, [229, 10, 0, 3, 0]), (.ifCond .ne 5, 0, [9]), (.iconst (-1), -1, []), (.ireturn, 0, [])]
def s234_9 : List E := [(.iload_n 2, 0, [2]), (.ifCond .lt 24, 0, [34]), (.iload_n 2, 0, [2]), (.aload_n 0, 0, [0]), (.getfield 14, 2, [16, 1, 81, 1]), (.iload_n 1, 0, [1]), (.iaload, 0, []), (.if_icmp .ge 14, 0, [34]), (.iload_n 3, 0, [3]), (.ifCond .lt 10, 0, [34]), (.iload_n 3, 0, [3]), (.sipush 255, 255, []), (.if_icmp .le 6, 0, [37]), (.nop, 0, [34])]
def s234_34 : List E := [(.bipush (-2), -2, []), (.ireturn, 0, [])]
def s234_37 : List E := [(.aload_n 0, 0, [0]), (.iload_n 1, 0, [1]), (.iload_n 2, 0, [2]), (.invokevirtual 335, 0, [233, 16, 33, 8, 0, 0, 0, 0]), (.istore 4, 0, [4]), (.aload_n 0, 0, [0]), (.getfield 8, 1, [16, 0, 83, 1]), (.sipush 16000, 16000, []), (.iload_n 1, 0, [1]), (.imul, 0, []), (.iload_n 2, 0, [2]), (.iadd, 0, []), (.iload_n 3, 0, [3]), (.i2b, 0, []), (.bastore, 0, [41]), (.iload 4, 0, [4]), (.ireturn, 0, [])]
def cd234 : List (Nat × List E) := [(0, s234_0), (9, s234_9), (34, s234_34), (37, s234_37)]
theorem l234_0 : lkc cd234 0 = s234_0 := rfl
theorem l234_9 : lkc cd234 9 = s234_9 := rfl
theorem l234_34 : lkc cd234 34 = s234_34 := rfl
theorem l234_37 : lkc cd234 37 = s234_37 := rfl
theorem k234 : chkM 234 16 true cd234 = true := by decide +kernel
/- FontHouseModel.cut(II)I -/
def s235_0 : List E := [(.iload_n 1, 0, [1]), (.invokestatic 329, 0, [229, 8, 0, 3, 0]), (.ifCond .ne 5, 0, [9]), (.iconst (-1), -1, []), (.ireturn, 0, [])]
def s235_9 : List E := [(.iload_n 2, 0, [2]), (.ifCond .lt 13, 0, [23]), (.iload_n 2, 0, [2]), (.aload_n 0, 0, [0]), (.getfield 14, 2, [16, 1, 81, 1]), (.iload_n 1, 0, [1]), (.iaload, 0, []), (.if_icmp .le 6, 0, [26]), (.nop, 0, [23])]
def s235_23 : List E := [(.bipush (-2), -2, []), (.ireturn, 0, [])]
def s235_26 : List E := [(.aload_n 0, 0, [0]), (.getfield 14, 2, [16, 1, 81, 1]), (.iload_n 1, 0, [1]), (.iaload, 0, []), (.istore_n 3, 0, [3]), (.aload_n 0, 0, [0]), (.getfield 14, 2, [16, 1, 81, 1]), (.iload_n 1, 0, [1]), (.iload_n 2, 0, [2]), (.iastore, 0, []), (.iload_n 3, 0, [3]), (.ireturn, 0, [])]
def cd235 : List (Nat × List E) := [(0, s235_0), (9, s235_9), (23, s235_23), (26, s235_26)]
theorem l235_0 : lkc cd235 0 = s235_0 := rfl
theorem l235_9 : lkc cd235 9 = s235_9 := rfl
theorem l235_23 : lkc cd235 23 = s235_23 := rfl
theorem l235_26 : lkc cd235 26 = s235_26 := rfl
theorem k235 : chkM 235 16 true cd235 = true := by decide +kernel
/- FontHouseModel.copy(IIII)I -/
def s236_0 : List E := [(.iload_n 1, 0, [1]), (.invokestatic 329, 0, [229, 8, 0, 3, 0]), (.ifCond .eq 11, 0, [15]), (.iload 4, 0, [4]), (.invokestatic 329, 0, [229, 8, 0, 3, 0]), (.ifCond .ne 5, 0, [17]), (.nop, 0, [15])]
def s236_15 : List E := [(.iconst (-1), -1, []), (.ireturn, 0, [])]
def s236_17 : List E := [(.iload_n 2, 0, [2]), (.ifCond .lt 29, 0, [47]), (.iload_n 3, 0, [3]), (.ifCond .lt 25, 0, [47]), (.iload_n 2, 0, [2]), (.aload_n 0, 0, [0]), (.getfield 14, 2, [16, 1, 81, 1]), (.iload_n 1, 0, [1]), (.iaload, 0, []), (.if_icmp .gt 15, 0, [47]), (.iload_n 3, 0, [3]), (.aload_n 0, 0, [0]), (.getfield 14, 2, [16, 1, 81, 1]), (.iload_n 1, 0, [1]), (.iaload, 0, []), (.iload_n 2, 0, [2]), (.isub, 0, []), (.if_icmp .le 6, 0, [50]), (.nop, 0, [47])]
def s236_47 : List E := [(.bipush (-2), -2, []), (.ireturn, 0, [])]
def s236_50 : List E := [(.iload_n 3, 0, [3]), (.sipush 16000, 16000, []), (.aload_n 0, 0, [0]), (.getfield 14, 2, [16, 1, 81, 1]), (.iload 4, 0, [4]), (.iaload, 0, []), (.isub, 0, []), (.if_icmp .le 6, 0, [68]), (.bipush (-4), -4, []), (.ireturn, 0, [])]
def s236_68 : List E := [(.iconst 0, 0, []), (.istore 5, 0, [5]), (.nop, 0, [71])]
def s236_71 : List E := [(.iload 5, 0, [5]), (.iload_n 3, 0, [3]), (.if_icmp .ge 54, 0, [128]), (.aload_n 0, 0, [0]), (.getfield 8, 1, [16, 0, 83, 1]), (.sipush 16000, 16000, []), (.iload 4, 0, [4]), (.imul, 0, []), (.aload_n 0, 0, [0]), (.getfield 14, 2, [16, 1, 81, 1]), (.iload 4, 0, [4]), (.iaload, 0, []), (.iadd, 0, []), (.aload_n 0, 0, [0]), (.getfield 8, 1, [16, 0, 83, 1]), (.sipush 16000, 16000, []), (.iload_n 1, 0, [1]), (.imul, 0, []), (.iload_n 2, 0, [2]), (.iadd, 0, []), (.iload 5, 0, [5]), (.iadd, 0, []), (.baload, 0, [41]), (.bastore, 0, [41]), (.aload_n 0, 0, [0]), (.getfield 14, 2, [16, 1, 81, 1]), (.iload 4, 0, [4]), (.dup2, 0, []), (.iaload, 0, []), (.iconst 1, 1, []), (.iadd, 0, []), (.iastore, 0, []), (.iinc 5 1, 1, [5]), (.goto (-54), 0, [71])]
def s236_128 : List E := [(.aload_n 0, 0, [0]), (.getfield 14, 2, [16, 1, 81, 1]), (.iload 4, 0, [4]), (.iaload, 0, []), (.ireturn, 0, [])]
def cd236 : List (Nat × List E) := [(0, s236_0), (15, s236_15), (17, s236_17), (47, s236_47), (50, s236_50), (68, s236_68), (71, s236_71), (128, s236_128)]
theorem l236_0 : lkc cd236 0 = s236_0 := rfl
theorem l236_15 : lkc cd236 15 = s236_15 := rfl
theorem l236_17 : lkc cd236 17 = s236_17 := rfl
theorem l236_47 : lkc cd236 47 = s236_47 := rfl
theorem l236_50 : lkc cd236 50 = s236_50 := rfl
theorem l236_68 : lkc cd236 68 = s236_68 := rfl
theorem l236_71 : lkc cd236 71 = s236_71 := rfl
theorem l236_128 : lkc cd236 128 = s236_128 := rfl
theorem k236 : chkM 236 16 true cd236 = true := by decide +kernel
/- FontHouseModel.differ(II)I -/
def s237_0 : List E := [(.iload_n 1, 0, [1]), (.invokestatic 329, 0, [229, 10, 0, 3, 0]), (.ifCond .eq 10, 0, [14]), (.iload_n 2, 0, [2]), (.invokestatic 329, 0, [229, 10, 0, 3, 0]), (.ifCond .ne 5, 0, [16]), (.nop, 0, [14])]
def s237_14 : List E := [(.iconst (-1), -1, []), (.ireturn, 0, [])]
def s237_16 : List E := [(.aload_n 0, 0, [0]), (.getfield 14, 2, [16, 1, 81, 1]), (.iload_n 1, 0, [1]), (.iaload, 0, []), (.aload_n 0, 0, [0]), (.getfield 14, 2, [16, 1, 81, 1]), (.iload_n 2, 0, [2]), (.iaload, 0, []), (.if_icmp .ge 12, 0, [40]), (.aload_n 0, 0, [0]), (.getfield 14, 2, [16, 1, 81, 1]), (.iload_n 1, 0, [1]), (.iaload, 0, []), (.goto 9, 0, [46])]
def s237_40 : List E := [(.aload_n 0, 0, [0]), (.getfield 14, 2, [16, 1, 81, 1]), (.iload_n 2, 0, [2]), (.iaload, 0, []), (.nop, 0, [46])]
def s237_46 : List E := [(.istore_n 3, 0, [3]), (.iconst 0, 0, []), (.istore 4, 0, [4]), (.nop, 0, [50])]
def s237_50 : List E := [(.iload 4, 0, [4]), (.iload_n 3, 0, [3]), (.if_icmp .ge 29, 0, [82]), (.aload_n 0, 0, [0]), (.iload_n 1, 0, [1]), (.iload 4, 0, [4]), (.invokevirtual 335, 0, [233, 16, 33, 8, 0, 0, 0, 0]), (.aload_n 0, 0, [0]), (.iload_n 2, 0, [2]), (.iload 4, 0, [4]), (.invokevirtual 335, 0, [233, 16, 33, 8, 0, 0, 0, 0]), (.if_icmp .eq 6, 0, [76]), (.iload 4, 0, [4]), (.ireturn, 0, [])]
def s237_76 : List E := [(.iinc 4 1, 1, [4]), (.goto (-29), 0, [50])]
def s237_82 : List E := [(.aload_n 0, 0, [0]), (.getfield 14, 2, [16, 1, 81, 1]), (.iload_n 1, 0, [1]), (.iaload, 0, []), (.aload_n 0, 0, [0]), (.getfield 14, 2, [16, 1, 81, 1]), (.iload_n 2, 0, [2]), (.iaload, 0, []), (.if_icmp .ne 8, 0, [102]), (.bipush (-3), -3, []), (.goto 4, 0, [103])]
def s237_102 : List E := [(.iload_n 3, 0, [3]), (.nop, 0, [103])]
def s237_103 : List E := [(.ireturn, 0, [])]
def cd237 : List (Nat × List E) := [(0, s237_0), (14, s237_14), (16, s237_16), (40, s237_40), (46, s237_46), (50, s237_50), (76, s237_76), (82, s237_82), (102, s237_102), (103, s237_103)]
theorem l237_0 : lkc cd237 0 = s237_0 := rfl
theorem l237_14 : lkc cd237 14 = s237_14 := rfl
theorem l237_16 : lkc cd237 16 = s237_16 := rfl
theorem l237_40 : lkc cd237 40 = s237_40 := rfl
theorem l237_46 : lkc cd237 46 = s237_46 := rfl
theorem l237_50 : lkc cd237 50 = s237_50 := rfl
theorem l237_76 : lkc cd237 76 = s237_76 := rfl
theorem l237_82 : lkc cd237 82 = s237_82 := rfl
theorem l237_102 : lkc cd237 102 = s237_102 := rfl
theorem l237_103 : lkc cd237 103 = s237_103 := rfl
theorem k237 : chkM 237 16 true cd237 = true := by decide +kernel
/- FontHouseModel.sum(I)J -/
def s238_0 : List E := [(.iload_n 1, 0, [1]), (.invokestatic 329, 0, [229, 10, 0, 3, 0]), (.ifCond .ne 7, 0, [11]), (.ldc2_w 339, -1, []), (.lreturn, 0, [])]
def s238_11 : List E := [(.lconst 0, 0, []), (.lstore_n 2, 0, [2]), (.iconst 0, 0, []), (.istore 4, 0, [4]), (.nop, 0, [16])]
def s238_16 : List E := [(.iload 4, 0, [4]), (.aload_n 0, 0, [0]), (.getfield 14, 2, [16, 1, 81, 1]), (.iload_n 1, 0, [1]), (.iaload, 0, []), (.if_icmp .ge 31, 0, [55]), (.lload_n 2, 0, [2]), (.aload_n 0, 0, [0]), (.iload_n 1, 0, [1]), (.iload 4, 0, [4]), (.invokevirtual 335, 0, [233, 16, 33, 8, 0, 0, 0, 0]), (.i2l, 0, []), (.bipush 24, 24, []), (.bipush 8, 8, []), (.iload 4, 0, [4]), (.iconst 3, 3, []), (.iand, 0, []), (.imul, 0, []), (.isub, 0, []), (.lshl, 0, []), (.ladd, 0, []), (.lstore_n 2, 0, [2]), (.iinc 4 1, 1, [4]), (.goto (-36), 0, [16])]
def s238_55 : List E := [(.lload_n 2, 0, [2]), (.ldc2_w 341, 4294967295, []), (.land, 0, []), (.lreturn, 0, [])]
def cd238 : List (Nat × List E) := [(0, s238_0), (11, s238_11), (16, s238_16), (55, s238_55)]
theorem l238_0 : lkc cd238 0 = s238_0 := rfl
theorem l238_11 : lkc cd238 11 = s238_11 := rfl
theorem l238_16 : lkc cd238 16 = s238_16 := rfl
theorem l238_55 : lkc cd238 55 = s238_55 := rfl
theorem k238 : chkM 238 16 true cd238 = true := by decide +kernel
/- FontHouseModel.place()I -/
def s239_0 : List E := [(.aload_n 0, 0, [0]), (.getfield 18, 0, [16, 3, 0]), (.ireturn, 0, [])]
def cd239 : List (Nat × List E) := [(0, s239_0)]
theorem l239_0 : lkc cd239 0 = s239_0 := rfl
theorem k239 : chkM 239 16 true cd239 = true := by decide +kernel
/- FontHouseModel.open(II)I -/
def s240_0 : List E := [(.iload_n 1, 0, [1]), (.invokestatic 329, 0, [229, 229, 0, 3, 0]), (.ifCond .eq 10, 0, [14]), (.iload_n 2, 0, [2]), (.invokestatic 329, 0, [229, 229, 0, 3, 0]), (.ifCond .ne 5, 0, [16]), (.nop, 0, [14])]
def s240_14 : List E := [(.iconst (-1), -1, []), (.ireturn, 0, [])]
def s240_16 : List E := [(.aload_n 0, 0, [0]), (.iconst 0, 0, []), (.putfield 343, 0, [16, 2, 0]), (.aload_n 0, 0, [0]), (.iconst (-1), -1, []), (.putfield 18, 0, [16, 3, 0]), (.iconst 0, 0, []), (.istore_n 3, 0, [3]), (.nop, 0, [28])]
def s240_28 : List E := [(.iload_n 3, 0, [3]), (.aload_n 0, 0, [0]), (.getfield 14, 2, [16, 1, 81, 1]), (.iload_n 1, 0, [1]), (.iaload, 0, []), (.if_icmp .ge 27, 0, [62]), (.aload_n 0, 0, [0]), (.getfield 22, 3, [16, 4, 83, 1]), (.iload_n 3, 0, [3]), (.aload_n 0, 0, [0]), (.getfield 8, 1, [16, 0, 83, 1]), (.sipush 16000, 16000, []), (.iload_n 1, 0, [1]), (.imul, 0, []), (.iload_n 3, 0, [3]), (.iadd, 0, []), (.baload, 0, [41]), (.bastore, 0, [41]), (.iinc 3 1, 1, [3]), (.goto (-31), 0, [28])]
def s240_62 : List E := [(.aload_n 0, 0, [0]), (.bipush 8, 8, []), (.aload_n 0, 0, [0]), (.getfield 14, 2, [16, 1, 81, 1]), (.iload_n 1, 0, [1]), (.iaload, 0, []), (.imul, 0, []), (.putfield 354, 0, [16, 5, 0]), (.aload_n 0, 0, [0]), (.invokevirtual 512, 0, [241, 16, 33, 8, 0, 100]), (.aload_n 0, 0, [0]), (.getfield 343, 0, [16, 2, 0]), (.ifCond .le 11, 0, [94]), (.bipush (-10), -10, []), (.aload_n 0, 0, [0]), (.getfield 343, 0, [16, 2, 0]), (.isub, 0, []), (.ireturn, 0, [])]
def s240_94 : List E := [(.iconst 0, 0, []), (.istore_n 3, 0, [3]), (.nop, 0, [96])]
def s240_96 : List E := [(.iload_n 3, 0, [3]), (.aload_n 0, 0, [0]), (.getfield 424, 0, [16, 8, 0]), (.if_icmp .ge 27, 0, [128]), (.aload_n 0, 0, [0]), (.getfield 8, 1, [16, 0, 83, 1]), (.sipush 16000, 16000, []), (.iload_n 2, 0, [2]), (.imul, 0, []), (.iload_n 3, 0, [3]), (.iadd, 0, []), (.aload_n 0, 0, [0]), (.getfield 25, 4, [16, 7, 83, 1]), (.iload_n 3, 0, [3]), (.baload, 0, [41]), (.bastore, 0, [41]), (.iinc 3 1, 1, [3]), (.goto (-29), 0, [96])]
def s240_128 : List E := [(.aload_n 0, 0, [0]), (.getfield 14, 2, [16, 1, 81, 1]), (.iload_n 2, 0, [2]), (.aload_n 0, 0, [0]), (.getfield 424, 0, [16, 8, 0]), (.iastore, 0, []), (.aload_n 0, 0, [0]), (.getfield 424, 0, [16, 8, 0]), (.ireturn, 0, [])]
def cd240 : List (Nat × List E) := [(0, s240_0), (14, s240_14), (16, s240_16), (28, s240_28), (62, s240_62), (94, s240_94), (96, s240_96), (128, s240_128)]
theorem l240_0 : lkc cd240 0 = s240_0 := rfl
theorem l240_14 : lkc cd240 14 = s240_14 := rfl
theorem l240_16 : lkc cd240 16 = s240_16 := rfl
theorem l240_28 : lkc cd240 28 = s240_28 := rfl
theorem l240_62 : lkc cd240 62 = s240_62 := rfl
theorem l240_94 : lkc cd240 94 = s240_94 := rfl
theorem l240_96 : lkc cd240 96 = s240_96 := rfl
theorem l240_128 : lkc cd240 128 = s240_128 := rfl
theorem k240 : chkM 240 16 true cd240 = true := by decide +kernel
/- FontHouseModel.opening()V -/
def s241_0 : List E := [(.iconst 0, 0, []), (.istore_n 1, 0, [1]), (.nop, 0, [2])]
def s241_2 : List E := [(.iload_n 1, 0, [1]), (.bipush 11, 11, []), (.if_icmp .ge 16, 0, [21]), (.aload_n 0, 0, [0]), (.getfield 28, 5, [16, 9, 81, 1]), (.iload_n 1, 0, [1]), (.iconst 0, 0, []), (.iastore, 0, []), (.iinc 1 1, 1, [1]), (.goto (-16), 0, [2])]
def s241_21 : List E := [(.aload_n 0, 0, [0]), (.iconst 0, 0, []), (.putfield 351, 0, [16, 6, 0]), (.aload_n 0, 0, [0]), (.iconst 0, 0, []), (.putfield 424, 0, [16, 8, 0]), (.aload_n 0, 0, [0]), (.getfield 72, 19, [16, 24, 81, 1]), (.iconst 0, 0, []), (.iconst 4, 4, []), (.iastore, 0, []), (.aload_n 0, 0, [0]), (.getfield 72, 19, [16, 24, 81, 1]), (.iconst 1, 1, []), (.bipush 11, 11, []), (.iastore, 0, []), (.aload_n 0, 0, [0]), (.getfield 72, 19, [16, 24, 81, 1]), (.iconst 2, 2, []), (.bipush 15, 15, []), (.iastore, 0, []), (.aload_n 0, 0, [0]), (.getfield 72, 19, [16, 24, 81, 1]), (.iconst 3, 3, []), (.bipush 16, 16, []), (.iastore, 0, []), (.aload_n 0, 0, [0]), (.bipush 16, 16, []), (.putfield 462, 0, [16, 10, 0]), (.aload_n 0, 0, [0]), (.invokevirtual 361, 0, [242, 16, 33, 184, 0, 0]), (.iconst 1, 1, []), (.if_icmp .ne 62, 0, [135]), (.aload_n 0, 0, [0]), (.iconst 3, 3, []), (.invokevirtual 365, 0, [244, 16, 33, 161, 0, 0, 0]), (.istore_n 1, 0, [1]), (.iload_n 1, 0, [1]), (.ifCond .le 14, 0, [97]), (.aload_n 0, 0, [0]), (.bipush 17, 17, []), (.iload_n 1, 0, [1]), (.iadd, 0, []), (.putfield 462, 0, [16, 10, 0]), (.goto 41, 0, [135])]
def s241_97 : List E := [(.aload_n 0, 0, [0]), (.iconst 3, 3, []), (.invokevirtual 365, 0, [244, 16, 33, 161, 0, 0, 0]), (.istore_n 2, 0, [2]), (.iload_n 2, 0, [2]), (.iconst 1, 1, []), (.if_icmp .ne 13, 0, [118]), (.aload_n 0, 0, [0]), (.iconst 2, 2, []), (.aload_n 0, 0, [0]), (.getfield 351, 0, [16, 6, 0]), (.invokevirtual 357, 0, [243, 16, 33, 205, 0, 3, 0, 0]), (.pop, 0, []), (.nop, 0, [118])]
def s241_118 : List E := [(.aload_n 0, 0, [0]), (.iload_n 2, 0, [2]), (.ifCond .ne 8, 0, [128]), (.bipush 17, 17, []), (.goto 7, 0, [132])]
def s241_128 : List E := [(.bipush 8, 8, []), (.iload_n 2, 0, [2]), (.iadd, 0, []), (.nop, 0, [132])]
def s241_132 : List E := [(.putfield 462, 0, [16, 10, 0]), (.nop, 0, [135])]
def s241_135 : List E := [(.iconst 0, 0, []), (.istore_n 1, 0, [1]), (.nop, 0, [137])]
def s241_137 : List E := [(.iload_n 1, 0, [1]), (.ifCond .ne 61, 0, [199]), (.aload_n 0, 0, [0]), (.getfield 343, 0, [16, 2, 0]), (.ifCond .ne 54, 0, [199]), (.aload_n 0, 0, [0]), (.getfield 28, 5, [16, 9, 81, 1]), (.iconst 0, 0, []), (.dup2, 0, []), (.iaload, 0, []), (.iconst 1, 1, []), (.iadd, 0, []), (.iastore, 0, []), (.aload_n 0, 0, [0]), (.invokevirtual 361, 0, [242, 16, 33, 184, 0, 0]), (.iconst 1, 1, []), (.if_icmp .ne 7, 0, [170]), (.iconst 1, 1, []), (.goto 4, 0, [171])]
def s241_170 : List E := [(.iconst 0, 0, []), (.nop, 0, [171])]
def s241_171 : List E := [(.istore_n 2, 0, [2]), (.iload_n 2, 0, [2]), (.istore_n 1, 0, [1]), (.iload_n 2, 0, [2]), (.ifCond .eq 16, 0, [191]), (.aload_n 0, 0, [0]), (.invokevirtual 361, 0, [242, 16, 33, 184, 0, 0]), (.iconst 1, 1, []), (.if_icmp .ne 8, 0, [191]), (.iconst 1, 1, []), (.istore_n 2, 0, [2]), (.goto 8, 0, [196])]
def s241_191 : List E := [(.aload_n 0, 0, [0]), (.iload_n 2, 0, [2]), (.invokevirtual 499, 0, [245, 16, 33, 8, 0, 100, 3]), (.nop, 0, [196])]
def s241_196 : List E := [(.goto (-59), 0, [137])]
def s241_199 : List E := [(.aload_n 0, 0, [0]), (.invokevirtual 427, 0, [248, 16, 33, 141, 0, 100]), (.aload_n 0, 0, [0]), (.getfield 343, 0, [16, 2, 0]), (.ifCond .ne 25, 0, [232]), (.aload_n 0, 0, [0]), (.getfield 351, 0, [16, 6, 0]), (.aload_n 0, 0, [0]), (.getfield 354, 0, [16, 5, 0]), (.if_icmp .ge 14, 0, [232]), (.aload_n 0, 0, [0]), (.bipush 13, 13, []), (.aload_n 0, 0, [0]), (.getfield 351, 0, [16, 6, 0]), (.invokevirtual 357, 0, [243, 16, 33, 205, 0, 3, 0, 0]), (.pop, 0, []), (.nop, 0, [232])]
def s241_232 : List E := [(.aload_n 0, 0, [0]), (.getfield 28, 5, [16, 9, 81, 1]), (.iconst 5, 5, []), (.aload_n 0, 0, [0]), (.getfield 351, 0, [16, 6, 0]), (.iastore, 0, []), (.iconst 0, 0, []), (.istore_n 2, 0, [2]), (.nop, 0, [244])]
def s241_244 : List E := [(.iload_n 2, 0, [2]), (.iconst 4, 4, []), (.if_icmp .ge 24, 0, [270]), (.aload_n 0, 0, [0]), (.getfield 28, 5, [16, 9, 81, 1]), (.bipush 6, 6, []), (.iload_n 2, 0, [2]), (.iadd, 0, []), (.aload_n 0, 0, [0]), (.getfield 72, 19, [16, 24, 81, 1]), (.iload_n 2, 0, [2]), (.iaload, 0, []), (.iastore, 0, []), (.iinc 2 1, 1, [2]), (.goto (-23), 0, [244])]
def s241_270 : List E := [(.return_, 0, [])]
def cd241 : List (Nat × List E) := [(0, s241_0), (2, s241_2), (21, s241_21), (97, s241_97), (118, s241_118), (128, s241_128), (132, s241_132), (135, s241_135), (137, s241_137), (170, s241_170), (171, s241_171), (191, s241_191), (196, s241_196), (199, s241_199), (232, s241_232), (244, s241_244), (270, s241_270)]
theorem l241_0 : lkc cd241 0 = s241_0 := rfl
theorem l241_2 : lkc cd241 2 = s241_2 := rfl
theorem l241_21 : lkc cd241 21 = s241_21 := rfl
theorem l241_97 : lkc cd241 97 = s241_97 := rfl
theorem l241_118 : lkc cd241 118 = s241_118 := rfl
theorem l241_128 : lkc cd241 128 = s241_128 := rfl
theorem l241_132 : lkc cd241 132 = s241_132 := rfl
theorem l241_135 : lkc cd241 135 = s241_135 := rfl
theorem l241_137 : lkc cd241 137 = s241_137 := rfl
theorem l241_170 : lkc cd241 170 = s241_170 := rfl
theorem l241_171 : lkc cd241 171 = s241_171 := rfl
theorem l241_191 : lkc cd241 191 = s241_191 := rfl
theorem l241_196 : lkc cd241 196 = s241_196 := rfl
theorem l241_199 : lkc cd241 199 = s241_199 := rfl
theorem l241_232 : lkc cd241 232 = s241_232 := rfl
theorem l241_244 : lkc cd241 244 = s241_244 := rfl
theorem l241_270 : lkc cd241 270 = s241_270 := rfl
theorem k241 : chkM 241 16 true cd241 = true := by decide +kernel
