set_option maxRecDepth 100000
/- FontHouseModel.insertCode(I)I -/
def s294_0 : List E := [(.bipush 23, 23, []), (.istore_n 1, 0, [1]), (.nop, 0, [3])]
def s294_3 : List E := [(.iload_n 1, 0, [1]), (.invokestatic 474, 0, [270, 8, 0, 0, 0]), (.iload_n 0, 0, [0]), (.if_icmp .le 9, 0, [17]), (.iinc 1 (-1), -1, [1]), (.goto (-11), 0, [3])]
def s294_17 : List E := [(.iload_n 1, 0, [1]), (.ireturn, 0, [])]
def cd294 : List (Nat × List E) := [(0, s294_0), (3, s294_3), (17, s294_17)]
theorem l294_0 : lkc cd294 0 = s294_0 := rfl
theorem l294_3 : lkc cd294 3 = s294_3 := rfl
theorem l294_17 : lkc cd294 17 = s294_17 := rfl
theorem k294 : chkM 294 16 true cd294 = true := by decide +kernel
/- FontHouseModel.copyCode(I)I -/
def s295_0 : List E := [(.bipush 23, 23, []), (.istore_n 1, 0, [1]), (.nop, 0, [3])]
def s295_3 : List E := [(.iload_n 1, 0, [1]), (.invokestatic 480, 0, [272, 8, 0, 0, 0]), (.iload_n 0, 0, [0]), (.if_icmp .le 9, 0, [17]), (.iinc 1 (-1), -1, [1]), (.goto (-11), 0, [3])]
def s295_17 : List E := [(.iload_n 1, 0, [1]), (.ireturn, 0, [])]
def cd295 : List (Nat × List E) := [(0, s295_0), (3, s295_3), (17, s295_17)]
theorem l295_0 : lkc cd295 0 = s295_0 := rfl
theorem l295_3 : lkc cd295 3 = s295_3 := rfl
theorem l295_17 : lkc cd295 17 = s295_17 := rfl
theorem k295 : chkM 295 16 true cd295 = true := by decide +kernel
/- FontHouseModel.group(II)I -/
def s296_0 : List E := [(.iconst 2, 2, []), (.istore_n 2, 0, [2]), (.nop, 0, [2])]
def s296_2 : List E := [(.iload_n 2, 0, [2]), (.invokestatic 468, 0, [268, 8, 0, 0, 0]), (.iload_n 0, 0, [0]), (.if_icmp .ne 11, 0, [18]), (.iload_n 2, 0, [2]), (.invokestatic 471, 0, [269, 8, 0, 0, 0]), (.iload_n 1, 0, [1]), (.if_icmp .eq 9, 0, [24]), (.nop, 0, [18])]
def s296_18 : List E := [(.iinc 2 1, 1, [2]), (.goto (-19), 0, [2])]
def s296_24 : List E := [(.iload_n 2, 0, [2]), (.ireturn, 0, [])]
def cd296 : List (Nat × List E) := [(0, s296_0), (2, s296_2), (18, s296_18), (24, s296_24)]
theorem l296_0 : lkc cd296 0 = s296_0 := rfl
theorem l296_2 : lkc cd296 2 = s296_2 := rfl
theorem l296_18 : lkc cd296 18 = s296_18 := rfl
theorem l296_24 : lkc cd296 24 = s296_24 := rfl
theorem k296 : chkM 296 16 true cd296 = true := by decide +kernel
/- FontHouseModel.mapped(III)I -/
def s297_0 : List E := [(.iload_n 0, 0, [0]), (.iconst 1, 1, []), (.if_icmp .ne 7, 0, [9]), (.iconst 0, 0, []), (.goto 11, 0, [17])]
def s297_9 : List E := [(.iconst 2, 2, []), (.iload_n 1, 0, [1]), (.iload_n 2, 0, [2]), (.invokestatic 458, 0, [276, 8, 0, 0, 0, 0, 0]), (.iconst 4, 4, []), (.ishr, 0, []), (.nop, 0, [17])]
def s297_17 : List E := [(.ireturn, 0, [])]
def cd297 : List (Nat × List E) := [(0, s297_0), (9, s297_9), (17, s297_17)]
theorem l297_0 : lkc cd297 0 = s297_0 := rfl
theorem l297_9 : lkc cd297 9 = s297_9 := rfl
theorem l297_17 : lkc cd297 17 = s297_17 := rfl
theorem k297 : chkM 297 16 true cd297 = true := by decide +kernel
/- FontHouseModel.farSymbol(I)I -/
def s298_0 : List E := [(.aload_n 0, 0, [0]), (.getfield 84, 23, [16, 35, 81, 1]), (.iload_n 1, 0, [1]), (.iaload, 0, []), (.ifCond .eq 15, 0, [21]), (.aload_n 0, 0, [0]), (.getfield 90, 25, [16, 37, 81, 1]), (.iload_n 1, 0, [1]), (.iaload, 0, []), (.sipush 128, 128, []), (.if_icmp .ge 7, 0, [25]), (.nop, 0, [21])]
def s298_21 : List E := [(.iconst (-1), -1, []), (.goto 29, 0, [51])]
def s298_25 : List E := [(.aload_n 0, 0, [0]), (.getfield 87, 24, [16, 36, 81, 1]), (.iload_n 1, 0, [1]), (.iaload, 0, []), (.aload_n 0, 0, [0]), (.getfield 90, 25, [16, 37, 81, 1]), (.iload_n 1, 0, [1]), (.iaload, 0, []), (.sipush 1000, 1000, []), (.if_icmp .lt 7, 0, [47]), (.iconst 1, 1, []), (.goto 4, 0, [48])]
def s298_47 : List E := [(.iconst 0, 0, []), (.nop, 0, [48])]
def s298_48 : List E := [(.invokestatic 562, 0, [299, 8, 0, 0, 3, 0]), (.nop, 0, [51])]
def s298_51 : List E := [(.ireturn, 0, [])]
def cd298 : List (Nat × List E) := [(0, s298_0), (21, s298_21), (25, s298_25), (47, s298_47), (48, s298_48), (51, s298_51)]
theorem l298_0 : lkc cd298 0 = s298_0 := rfl
theorem l298_21 : lkc cd298 21 = s298_21 := rfl
theorem l298_25 : lkc cd298 25 = s298_25 := rfl
theorem l298_47 : lkc cd298 47 = s298_47 := rfl
theorem l298_48 : lkc cd298 48 = s298_48 := rfl
theorem l298_51 : lkc cd298 51 = s298_51 := rfl
theorem k298 : chkM 298 16 true cd298 = true := by decide +kernel
/- FontHouseModel.farOf(IZ)I -/
def s299_0 : List E := [(.iload_n 1, 0, [1]), (.ifCond .eq 5, 0, [6]), (.iconst 0, 0, []), (.ireturn, 0, [])]
def s299_6 : List E := [(.iload_n 0, 0, [0]), (.iconst 3, 3, []), (.iadd, 0, []), (.istore_n 2, 0, [2]), (.iload_n 2, 0, [2]), (.invokestatic 386, 0, [254, 8, 0, 0, 0]), (.iconst 2, 2, []), (.isub, 0, []), (.istore_n 3, 0, [3]), (.bipush 16, 16, []), (.iconst 2, 2, []), (.iload_n 3, 0, [3]), (.iconst 1, 1, []), (.isub, 0, []), (.imul, 0, []), (.iadd, 0, []), (.iload_n 2, 0, [2]), (.iload_n 3, 0, [3]), (.ishr, 0, []), (.iconst 1, 1, []), (.iand, 0, []), (.iadd, 0, []), (.ireturn, 0, [])]
def cd299 : List (Nat × List E) := [(0, s299_0), (6, s299_6)]
theorem l299_0 : lkc cd299 0 = s299_0 := rfl
theorem l299_6 : lkc cd299 6 = s299_6 := rfl
theorem k299 : chkM 299 16 true cd299 = true := by decide +kernel
/- FontHouseModel.tellCode(II)V -/
def s300_0 : List E := [(.sipush 704, 704, []), (.iload_n 1, 0, [1]), (.imul, 0, []), (.istore_n 3, 0, [3]), (.iconst 0, 0, []), (.istore 4, 0, [4]), (.iconst 0, 0, []), (.istore 5, 0, [5]), (.nop, 0, [12])]
def s300_12 : List E := [(.iload 5, 0, [5]), (.iload_n 2, 0, [2]), (.if_icmp .ge 31, 0, [46]), (.iload 4, 0, [4]), (.aload_n 0, 0, [0]), (.getfield 93, 26, [16, 38, 81, 1]), (.iload_n 3, 0, [3]), (.iload 5, 0, [5]), (.iadd, 0, []), (.iaload, 0, []), (.ifCond .le 7, 0, [36]), (.iconst 1, 1, []), (.goto 4, 0, [37])]
def s300_36 : List E := [(.iconst 0, 0, []), (.nop, 0, [37])]
def s300_37 : List E := [(.iadd, 0, []), (.istore 4, 0, [4]), (.iinc 5 1, 1, [5]), (.goto (-31), 0, [12])]
def s300_46 : List E := [(.iload 4, 0, [4]), (.ifCond .ne 13, 0, [61]), (.aload_n 0, 0, [0]), (.getfield 93, 26, [16, 38, 81, 1]), (.iload_n 3, 0, [3]), (.iconst 1, 1, []), (.iastore, 0, []), (.iconst 1, 1, []), (.istore 4, 0, [4]), (.nop, 0, [61])]
def s300_61 : List E := [(.aload_n 0, 0, [0]), (.iload_n 1, 0, [1]), (.iload_n 2, 0, [2]), (.bipush 15, 15, []), (.invokevirtual 534, 0, [301, 16, 33, 34, 0, 100, 0, 0, 0]), (.aload_n 0, 0, [0]), (.iload_n 1, 0, [1]), (.iload_n 2, 0, [2]), (.invokevirtual 538, 0, [303, 16, 33, 61, 0, 100, 0, 0]), (.iload 4, 0, [4]), (.iconst 4, 4, []), (.if_icmp .gt 12, 0, [90]), (.aload_n 0, 0, [0]), (.iload_n 1, 0, [1]), (.iload_n 2, 0, [2]), (.iload 4, 0, [4]), (.invokevirtual 541, 0, [304, 16, 33, 36, 0, 100, 0, 0, 0]), (.return_, 0, [])]
def s300_90 : List E := [(.aload_n 0, 0, [0]), (.iconst 0, 0, []), (.iconst 2, 2, []), (.invokevirtual 523, 0, [287, 16, 33, 64, 0, 100, 0, 0]), (.iload_n 2, 0, [2]), (.iconst 1, 1, []), (.isub, 0, []), (.istore 5, 0, [5]), (.nop, 0, [101])]
def s300_101 : List E := [(.aload_n 0, 0, [0]), (.getfield 96, 27, [16, 39, 81, 1]), (.iload_n 3, 0, [3]), (.iload 5, 0, [5]), (.iadd, 0, []), (.iaload, 0, []), (.ifCond .gt 9, 0, [119]), (.iinc 5 (-1), -1, [5]), (.goto (-15), 0, [101])]
def s300_119 : List E := [(.aload_n 0, 0, [0]), (.iconst 0, 0, []), (.putfield 531, 0, [16, 46, 0]), (.iconst 0, 0, []), (.istore 6, 0, [6]), (.iconst 0, 0, []), (.istore 7, 0, [7]), (.nop, 0, [130])]
def s300_130 : List E := [(.iload 7, 0, [7]), (.iload 5, 0, [5]), (.if_icmp .gt 74, 0, [208]), (.aload_n 0, 0, [0]), (.getfield 96, 27, [16, 39, 81, 1]), (.iload_n 3, 0, [3]), (.iload 7, 0, [7]), (.iadd, 0, []), (.iaload, 0, []), (.ifCond .gt 9, 0, [155]), (.iinc 6 1, 1, [6]), (.goto 50, 0, [202])]
def s300_155 : List E := [(.aload_n 0, 0, [0]), (.iload 6, 0, [6]), (.invokevirtual 544, 0, [305, 16, 33, 62, 0, 100, 0]), (.iconst 0, 0, []), (.istore 6, 0, [6]), (.aload_n 0, 0, [0]), (.getfield 113, 32, [16, 44, 81, 1]), (.aload_n 0, 0, [0]), (.getfield 531, 0, [16, 46, 0]), (.aload_n 0, 0, [0]), (.getfield 96, 27, [16, 39, 81, 1]), (.iload_n 3, 0, [3]), (.iload 7, 0, [7]), (.iadd, 0, []), (.iaload, 0, []), (.iastore, 0, []), (.aload_n 0, 0, [0]), (.getfield 116, 33, [16, 45, 81, 1]), (.aload_n 0, 0, [0]), (.getfield 531, 0, [16, 46, 0]), (.iconst (-1), -1, []), (.iastore, 0, []), (.aload_n 0, 0, [0]), (.dup, 0, []), (.getfield 531, 0, [16, 46, 0]), (.iconst 1, 1, []), (.iadd, 0, []), (.putfield 531, 0, [16, 46, 0]), (.nop, 0, [202])]
def s300_202 : List E := [(.iinc 7 1, 1, [7]), (.goto (-75), 0, [130])]
def s300_208 : List E := [(.iconst 0, 0, []), (.istore 7, 0, [7]), (.nop, 0, [211])]
def s300_211 : List E := [(.iload 7, 0, [7]), (.bipush 18, 18, []), (.if_icmp .ge 21, 0, [236]), (.aload_n 0, 0, [0]), (.getfield 93, 26, [16, 38, 81, 1]), (.sipush 4928, 4928, []), (.iload 7, 0, [7]), (.iadd, 0, []), (.iconst 0, 0, []), (.iastore, 0, []), (.iinc 7 1, 1, [7]), (.goto (-22), 0, [211])]
def s300_236 : List E := [(.iconst 0, 0, []), (.istore 7, 0, [7]), (.nop, 0, [239])]
def s300_239 : List E := [(.iload 7, 0, [7]), (.aload_n 0, 0, [0]), (.getfield 531, 0, [16, 46, 0]), (.if_icmp .ge 29, 0, [274]), (.aload_n 0, 0, [0]), (.getfield 93, 26, [16, 38, 81, 1]), (.sipush 4928, 4928, []), (.aload_n 0, 0, [0]), (.getfield 113, 32, [16, 44, 81, 1]), (.iload 7, 0, [7]), (.iaload, 0, []), (.iadd, 0, []), (.dup2, 0, []), (.iaload, 0, []), (.iconst 1, 1, []), (.iadd, 0, []), (.iastore, 0, []), (.iinc 7 1, 1, [7]), (.goto (-32), 0, [239])]
def s300_274 : List E := [(.aload_n 0, 0, [0]), (.invokevirtual 547, 0, [306, 16, 33, 8, 0, 100]), (.iconst 0, 0, []), (.istore 7, 0, [7]), (.nop, 0, [281])]
def s300_281 : List E := [(.iload 7, 0, [7]), (.aload_n 0, 0, [0]), (.getfield 531, 0, [16, 46, 0]), (.if_icmp .ge 44, 0, [331]), (.aload_n 0, 0, [0]), (.bipush 7, 7, []), (.aload_n 0, 0, [0]), (.getfield 113, 32, [16, 44, 81, 1]), (.iload 7, 0, [7]), (.iaload, 0, []), (.invokevirtual 550, 0, [307, 16, 33, 40, 0, 100, 0, 0]), (.aload_n 0, 0, [0]), (.getfield 116, 33, [16, 45, 81, 1]), (.iload 7, 0, [7]), (.iaload, 0, []), (.ifCond .lt 15, 0, [325]), (.aload_n 0, 0, [0]), (.aload_n 0, 0, [0]), (.getfield 116, 33, [16, 45, 81, 1]), (.iload 7, 0, [7]), (.iaload, 0, []), (.iconst 3, 3, []), (.invokevirtual 523, 0, [287, 16, 33, 64, 0, 100, 0, 0]), (.nop, 0, [325])]
def s300_325 : List E := [(.iinc 7 1, 1, [7]), (.goto (-47), 0, [281])]
def s300_331 : List E := [(.return_, 0, [])]
def cd300 : List (Nat × List E) := [(0, s300_0), (12, s300_12), (36, s300_36), (37, s300_37), (46, s300_46), (61, s300_61), (90, s300_90), (101, s300_101), (119, s300_119), (130, s300_130), (155, s300_155), (202, s300_202), (208, s300_208), (211, s300_211), (236, s300_236), (239, s300_239), (274, s300_274), (281, s300_281), (325, s300_325), (331, s300_331)]
theorem l300_0 : lkc cd300 0 = s300_0 := rfl
theorem l300_12 : lkc cd300 12 = s300_12 := rfl
theorem l300_36 : lkc cd300 36 = s300_36 := rfl
theorem l300_37 : lkc cd300 37 = s300_37 := rfl
theorem l300_46 : lkc cd300 46 = s300_46 := rfl
theorem l300_61 : lkc cd300 61 = s300_61 := rfl
theorem l300_90 : lkc cd300 90 = s300_90 := rfl
theorem l300_101 : lkc cd300 101 = s300_101 := rfl
theorem l300_119 : lkc cd300 119 = s300_119 := rfl
theorem l300_130 : lkc cd300 130 = s300_130 := rfl
theorem l300_155 : lkc cd300 155 = s300_155 := rfl
theorem l300_202 : lkc cd300 202 = s300_202 := rfl
theorem l300_208 : lkc cd300 208 = s300_208 := rfl
theorem l300_211 : lkc cd300 211 = s300_211 := rfl
theorem l300_236 : lkc cd300 236 = s300_236 := rfl
theorem l300_239 : lkc cd300 239 = s300_239 := rfl
theorem l300_274 : lkc cd300 274 = s300_274 := rfl
theorem l300_281 : lkc cd300 281 = s300_281 := rfl
theorem l300_325 : lkc cd300 325 = s300_325 := rfl
theorem l300_331 : lkc cd300 331 = s300_331 := rfl
theorem k300 : chkM 300 16 true cd300 = true := by decide +kernel
/- FontHouseModel.depths(III)V -/
def s301_0 : List E := [(.sipush 704, 704, []), (.iload_n 1, 0, [1]), (.imul, 0, []), (.istore 4, 0, [4]), (.iconst 0, 0, []), (.istore 5, 0, [5]), (.nop, 0, [10])]
def s301_10 : List E := [(.iload 5, 0, [5]), (.iload_n 2, 0, [2]), (.if_icmp .ge 27, 0, [40]), (.aload_n 0, 0, [0]), (.getfield 102, 29, [16, 41, 87, 1]), (.iload 5, 0, [5]), (.aload_n 0, 0, [0]), (.getfield 93, 26, [16, 38, 81, 1]), (.iload 4, 0, [4]), (.iload 5, 0, [5]), (.iadd, 0, []), (.iaload, 0, []), (.i2l, 0, []), (.lastore, 0, []), (.iinc 5 1, 1, [5]), (.goto (-27), 0, [10])]
def s301_40 : List E := [(.iconst 1, 1, []), (.istore 5, 0, [5]), (.nop, 0, [43])]
def s301_43 : List E := [(.iload 5, 0, [5]), (.ifCond .eq 318, 0, [363]), (.iload_n 2, 0, [2]), (.istore 6, 0, [6]), (.iconst 0, 0, []), (.istore 7, 0, [7]), (.iconst 0, 0, []), (.istore 8, 0, [8]), (.nop, 0, [57])]
def s301_57 : List E := [(.iload 8, 0, [8]), (.iload_n 2, 0, [2]), (.if_icmp .ge 61, 0, [121]), (.aload_n 0, 0, [0]), (.getfield 109, 31, [16, 43, 89, 1]), (.iload 8, 0, [8]), (.aload_n 0, 0, [0]), (.getfield 102, 29, [16, 41, 87, 1]), (.iload 8, 0, [8]), (.laload, 0, []), (.lconst 0, 0, []), (.lcmp, 0, []), (.ifCond .ne 7, 0, [85]), (.iconst 1, 1, []), (.goto 4, 0, [86])]
def s301_85 : List E := [(.iconst 0, 0, []), (.nop, 0, [86])]
def s301_86 : List E := [(.bastore, 0, []), (.aload_n 0, 0, [0]), (.getfield 106, 30, [16, 42, 81, 1]), (.iload 8, 0, [8]), (.iconst (-1), -1, []), (.iastore, 0, []), (.iload 7, 0, [7]), (.aload_n 0, 0, [0]), (.getfield 109, 31, [16, 43, 89, 1]), (.iload 8, 0, [8]), (.baload, 0, [44]), (.ifCond .eq 7, 0, [111]), (.iconst 0, 0, []), (.goto 4, 0, [112])]
def s301_111 : List E := [(.iconst 1, 1, []), (.nop, 0, [112])]
def s301_112 : List E := [(.iadd, 0, []), (.istore 7, 0, [7]), (.iinc 8 1, 1, [8]), (.goto (-61), 0, [57])]
def s301_121 : List E := [(.iload 7, 0, [7]), (.iconst 1, 1, []), (.if_icmp .le 100, 0, [224]), (.aload_n 0, 0, [0]), (.iload 6, 0, [6]), (.invokevirtual 526, 0, [302, 16, 33, 8, 0, 0, 0]), (.istore 8, 0, [8]), (.aload_n 0, 0, [0]), (.getfield 109, 31, [16, 43, 89, 1]), (.iload 8, 0, [8]), (.iconst 1, 1, []), (.bastore, 0, []), (.aload_n 0, 0, [0]), (.iload 6, 0, [6]), (.invokevirtual 526, 0, [302, 16, 33, 8, 0, 0, 0]), (.istore 9, 0, [9]), (.aload_n 0, 0, [0]), (.getfield 109, 31, [16, 43, 89, 1]), (.iload 9, 0, [9]), (.iconst 1, 1, []), (.bastore, 0, []), (.aload_n 0, 0, [0]), (.getfield 102, 29, [16, 41, 87, 1]), (.iload 6, 0, [6]), (.aload_n 0, 0, [0]), (.getfield 102, 29, [16, 41, 87, 1]), (.iload 8, 0, [8]), (.laload, 0, []), (.aload_n 0, 0, [0]), (.getfield 102, 29, [16, 41, 87, 1]), (.iload 9, 0, [9]), (.laload, 0, []), (.ladd, 0, []), (.lastore, 0, []), (.aload_n 0, 0, [0]), (.getfield 109, 31, [16, 43, 89, 1]), (.iload 6, 0, [6]), (.iconst 0, 0, []), (.bastore, 0, []), (.aload_n 0, 0, [0]), (.getfield 106, 30, [16, 42, 81, 1]), (.iload 8, 0, [8]), (.iload 6, 0, [6]), (.iastore, 0, []), (.aload_n 0, 0, [0]), (.getfield 106, 30, [16, 42, 81, 1]), (.iload 9, 0, [9]), (.iload 6, 0, [6]), (.iastore, 0, []), (.aload_n 0, 0, [0]), (.getfield 106, 30, [16, 42, 81, 1]), (.iload 6, 0, [6]), (.iconst (-1), -1, []), (.iastore, 0, []), (.iinc 6 1, 1, [6]), (.iinc 7 (-1), -1, [7]), (.goto (-100), 0, [121])]
def s301_224 : List E := [(.iconst 0, 0, []), (.istore 5, 0, [5]), (.iconst 0, 0, []), (.istore 8, 0, [8]), (.nop, 0, [230])]
def s301_230 : List E := [(.iload 8, 0, [8]), (.iload_n 2, 0, [2]), (.if_icmp .ge 87, 0, [320]), (.iconst 0, 0, []), (.istore 9, 0, [9]), (.aload_n 0, 0, [0]), (.getfield 106, 30, [16, 42, 81, 1]), (.iload 8, 0, [8]), (.iaload, 0, []), (.istore 10, 0, [10]), (.nop, 0, [248])]
def s301_248 : List E := [(.iload 10, 0, [10]), (.ifCond .lt 18, 0, [268]), (.iinc 9 1, 1, [9]), (.aload_n 0, 0, [0]), (.getfield 106, 30, [16, 42, 81, 1]), (.iload 10, 0, [10]), (.iaload, 0, []), (.istore 10, 0, [10]), (.goto (-17), 0, [248])]
def s301_268 : List E := [(.aload_n 0, 0, [0]), (.getfield 96, 27, [16, 39, 81, 1]), (.iload 4, 0, [4]), (.iload 8, 0, [8]), (.iadd, 0, []), (.aload_n 0, 0, [0]), (.getfield 102, 29, [16, 41, 87, 1]), (.iload 8, 0, [8]), (.laload, 0, []), (.lconst 0, 0, []), (.lcmp, 0, []), (.ifCond .ne 7, 0, [293]), (.iconst (-1), -1, []), (.goto 5, 0, [295])]
def s301_293 : List E := [(.iload 9, 0, [9]), (.nop, 0, [295])]
def s301_295 : List E := [(.iastore, 0, []), (.iload 5, 0, [5]), (.ifCond .ne 9, 0, [307]), (.iload 9, 0, [9]), (.iload_n 3, 0, [3]), (.if_icmp .le 7, 0, [311]), (.nop, 0, [307])]
def s301_307 : List E := [(.iconst 1, 1, []), (.goto 4, 0, [312])]
def s301_311 : List E := [(.iconst 0, 0, []), (.nop, 0, [312])]
def s301_312 : List E := [(.istore 5, 0, [5]), (.iinc 8 1, 1, [8]), (.goto (-87), 0, [230])]
def s301_320 : List E := [(.iconst 0, 0, []), (.istore 8, 0, [8]), (.nop, 0, [323])]
def s301_323 : List E := [(.iload 8, 0, [8]), (.iload_n 2, 0, [2]), (.if_icmp .ge 34, 0, [360]), (.iload 5, 0, [5]), (.ifCond .eq 29, 0, [360]), (.aload_n 0, 0, [0]), (.getfield 102, 29, [16, 41, 87, 1]), (.iload 8, 0, [8]), (.aload_n 0, 0, [0]), (.getfield 102, 29, [16, 41, 87, 1]), (.iload 8, 0, [8]), (.laload, 0, []), (.lconst 1, 1, []), (.ladd, 0, []), (.ldc2_w 529, 2, []), (.ldiv, 0, []), (.lastore, 0, []), (.iinc 8 1, 1, [8]), (.goto (-34), 0, [323])]
def s301_360 : List E := [(.goto (-317), 0, [43])]
def s301_363 : List E := [(.return_, 0, [])]
def cd301 : List (Nat × List E) := [(0, s301_0), (10, s301_10), (40, s301_40), (43, s301_43), (57, s301_57), (85, s301_85), (86, s301_86), (111, s301_111), (112, s301_112), (121, s301_121), (224, s301_224), (230, s301_230), (248, s301_248), (268, s301_268), (293, s301_293), (295, s301_295), (307, s301_307), (311, s301_311), (312, s301_312), (320, s301_320), (323, s301_323), (360, s301_360), (363, s301_363)]
theorem l301_0 : lkc cd301 0 = s301_0 := rfl
theorem l301_10 : lkc cd301 10 = s301_10 := rfl
theorem l301_40 : lkc cd301 40 = s301_40 := rfl
theorem l301_43 : lkc cd301 43 = s301_43 := rfl
theorem l301_57 : lkc cd301 57 = s301_57 := rfl
theorem l301_85 : lkc cd301 85 = s301_85 := rfl
theorem l301_86 : lkc cd301 86 = s301_86 := rfl
theorem l301_111 : lkc cd301 111 = s301_111 := rfl
theorem l301_112 : lkc cd301 112 = s301_112 := rfl
theorem l301_121 : lkc cd301 121 = s301_121 := rfl
theorem l301_224 : lkc cd301 224 = s301_224 := rfl
theorem l301_230 : lkc cd301 230 = s301_230 := rfl
theorem l301_248 : lkc cd301 248 = s301_248 := rfl
theorem l301_268 : lkc cd301 268 = s301_268 := rfl
theorem l301_293 : lkc cd301 293 = s301_293 := rfl
theorem l301_295 : lkc cd301 295 = s301_295 := rfl
theorem l301_307 : lkc cd301 307 = s301_307 := rfl
theorem l301_311 : lkc cd301 311 = s301_311 := rfl
theorem l301_312 : lkc cd301 312 = s301_312 := rfl
theorem l301_320 : lkc cd301 320 = s301_320 := rfl
theorem l301_323 : lkc cd301 323 = s301_323 := rfl
theorem l301_360 : lkc cd301 360 = s301_360 := rfl
theorem l301_363 : lkc cd301 363 = s301_363 := rfl
theorem k301 : chkM 301 16 true cd301 = true := by decide +kernel
/- FontHouseModel.least(I)I -/
def s302_0 : List E := [(.iconst (-1), -1, []), (.istore_n 2, 0, [2]), (.iconst 0, 0, []), (.istore_n 3, 0, [3]), (.nop, 0, [4])]
def s302_4 : List E := [(.iload_n 3, 0, [3]), (.iload_n 1, 0, [1]), (.if_icmp .ge 40, 0, [46]), (.aload_n 0, 0, [0]), (.getfield 109, 31, [16, 43, 89, 1]), (.iload_n 3, 0, [3]), (.baload, 0, [44]), (.ifCond .ne 25, 0, [40]), (.iload_n 2, 0, [2]), (.ifCond .lt 19, 0, [38]), (.aload_n 0, 0, [0]), (.getfield 102, 29, [16, 41, 87, 1]), (.iload_n 3, 0, [3]), (.laload, 0, []), (.aload_n 0, 0, [0]), (.getfield 102, 29, [16, 41, 87, 1]), (.iload_n 2, 0, [2]), (.laload, 0, []), (.lcmp, 0, []), (.ifCond .ge 5, 0, [40]), (.nop, 0, [38])]
def s302_38 : List E := [(.iload_n 3, 0, [3]), (.istore_n 2, 0, [2]), (.nop, 0, [40])]
def s302_40 : List E := [(.iinc 3 1, 1, [3]), (.goto (-39), 0, [4])]
def s302_46 : List E := [(.iload_n 2, 0, [2]), (.ireturn, 0, [])]
def cd302 : List (Nat × List E) := [(0, s302_0), (4, s302_4), (38, s302_38), (40, s302_40), (46, s302_46)]
theorem l302_0 : lkc cd302 0 = s302_0 := rfl
theorem l302_4 : lkc cd302 4 = s302_4 := rfl
theorem l302_38 : lkc cd302 38 = s302_38 := rfl
theorem l302_40 : lkc cd302 40 = s302_40 := rfl
theorem l302_46 : lkc cd302 46 = s302_46 := rfl
theorem k302 : chkM 302 16 true cd302 = true := by decide +kernel
/- FontHouseModel.wordsOf(II)V -/
def s303_0 : List E := [(.sipush 704, 704, []), (.iload_n 1, 0, [1]), (.imul, 0, []), (.istore_n 3, 0, [3]), (.iconst 0, 0, []), (.istore 4, 0, [4]), (.iconst 1, 1, []), (.istore 5, 0, [5]), (.nop, 0, [12])]
def s303_12 : List E := [(.iload 5, 0, [5]), (.bipush 16, 16, []), (.if_icmp .ge 58, 0, [74]), (.iconst 0, 0, []), (.istore 6, 0, [6]), (.nop, 0, [22])]
def s303_22 : List E := [(.iload 6, 0, [6]), (.iload_n 2, 0, [2]), (.if_icmp .ge 37, 0, [62]), (.aload_n 0, 0, [0]), (.getfield 96, 27, [16, 39, 81, 1]), (.iload_n 3, 0, [3]), (.iload 6, 0, [6]), (.iadd, 0, []), (.iaload, 0, []), (.iload 5, 0, [5]), (.if_icmp .ne 17, 0, [56]), (.aload_n 0, 0, [0]), (.getfield 99, 28, [16, 40, 81, 1]), (.iload_n 3, 0, [3]), (.iload 6, 0, [6]), (.iadd, 0, []), (.iload 4, 0, [4]), (.iastore, 0, []), (.iinc 4 1, 1, [4]), (.nop, 0, [56])]
def s303_56 : List E := [(.iinc 6 1, 1, [6]), (.goto (-37), 0, [22])]
def s303_62 : List E := [(.iload 4, 0, [4]), (.iconst 1, 1, []), (.ishl, 0, []), (.istore 4, 0, [4]), (.iinc 5 1, 1, [5]), (.goto (-59), 0, [12])]
def s303_74 : List E := [(.return_, 0, [])]
def cd303 : List (Nat × List E) := [(0, s303_0), (12, s303_12), (22, s303_22), (56, s303_56), (62, s303_62), (74, s303_74)]
theorem l303_0 : lkc cd303 0 = s303_0 := rfl
theorem l303_12 : lkc cd303 12 = s303_12 := rfl
theorem l303_22 : lkc cd303 22 = s303_22 := rfl
theorem l303_56 : lkc cd303 56 = s303_56 := rfl
theorem l303_62 : lkc cd303 62 = s303_62 := rfl
theorem l303_74 : lkc cd303 74 = s303_74 := rfl
theorem k303 : chkM 303 16 true cd303 = true := by decide +kernel
/- FontHouseModel.tellFew(III)V -/
def s304_0 : List E := [(.sipush 704, 704, []), (.iload_n 1, 0, [1]), (.imul, 0, []), (.istore 4, 0, [4]), (.aload_n 0, 0, [0]), (.iconst 1, 1, []), (.iconst 2, 2, []), (.invokevirtual 523, 0, [287, 16, 33, 8, 0, 100, 0, 0]), (.aload_n 0, 0, [0]), (.iload_n 3, 0, [3]), (.iconst 1, 1, []), (.isub, 0, []), (.iconst 2, 2, []), (.invokevirtual 523, 0, [287, 16, 33, 8, 0, 100, 0, 0]), (.iload_n 2, 0, [2]), (.iconst 1, 1, []), (.isub, 0, []), (.invokestatic 386, 0, [254, 10, 0, 0, 0]), (.istore 5, 0, [5]), (.bipush 99, 99, []), (.istore 6, 0, [6]), (.iconst 0, 0, []), (.istore 7, 0, [7]), (.nop, 0, [36])]
def s304_36 : List E := [(.iload 7, 0, [7]), (.bipush 16, 16, []), (.if_icmp .ge 76, 0, [116]), (.iconst 0, 0, []), (.istore 8, 0, [8]), (.nop, 0, [46])]
def s304_46 : List E := [(.iload 8, 0, [8]), (.iload_n 2, 0, [2]), (.if_icmp .ge 61, 0, [110]), (.aload_n 0, 0, [0]), (.getfield 93, 26, [16, 38, 81, 1]), (.iload 4, 0, [4]), (.iload 8, 0, [8]), (.iadd, 0, []), (.iaload, 0, []), (.ifCond .le 42, 0, [104]), (.aload_n 0, 0, [0]), (.getfield 96, 27, [16, 39, 81, 1]), (.iload 4, 0, [4]), (.iload 8, 0, [8]), (.iadd, 0, []), (.iaload, 0, []), (.iload 7, 0, [7]), (.if_icmp .ne 27, 0, [104]), (.aload_n 0, 0, [0]), (.iload 8, 0, [8]), (.iload 5, 0, [5]), (.invokevirtual 523, 0, [287, 16, 33, 8, 0, 100, 0, 0]), (.iload 7, 0, [7]), (.iload 6, 0, [6]), (.if_icmp .ge 8, 0, [100]), (.iload 7, 0, [7]), (.goto 5, 0, [102])]
def s304_100 : List E := [(.iload 6, 0, [6]), (.nop, 0, [102])]
def s304_102 : List E := [(.istore 6, 0, [6]), (.nop, 0, [104])]
def s304_104 : List E := [(.iinc 8 1, 1, [8]), (.goto (-61), 0, [46])]
def s304_110 : List E := [(.iinc 7 1, 1, [7]), (.goto (-77), 0, [36])]
def s304_116 : List E := [(.iload_n 3, 0, [3]), (.iconst 4, 4, []), (.if_icmp .ne 19, 0, [137]), (.aload_n 0, 0, [0]), (.iload 6, 0, [6]), (.iconst 1, 1, []), (.if_icmp .ne 7, 0, [132]), (.iconst 1, 1, []), (.goto 4, 0, [133])]
def s304_132 : List E := [(.iconst 0, 0, []), (.nop, 0, [133])]
def s304_133 : List E := [(.iconst 1, 1, []), (.invokevirtual 523, 0, [287, 16, 33, 8, 0, 100, 0, 0]), (.nop, 0, [137])]
def s304_137 : List E := [(.return_, 0, [])]
def cd304 : List (Nat × List E) := [(0, s304_0), (36, s304_36), (46, s304_46), (100, s304_100), (102, s304_102), (104, s304_104), (110, s304_110), (116, s304_116), (132, s304_132), (133, s304_133), (137, s304_137)]
theorem l304_0 : lkc cd304 0 = s304_0 := rfl
theorem l304_36 : lkc cd304 36 = s304_36 := rfl
theorem l304_46 : lkc cd304 46 = s304_46 := rfl
theorem l304_100 : lkc cd304 100 = s304_100 := rfl
theorem l304_102 : lkc cd304 102 = s304_102 := rfl
theorem l304_104 : lkc cd304 104 = s304_104 := rfl
theorem l304_110 : lkc cd304 110 = s304_110 := rfl
theorem l304_116 : lkc cd304 116 = s304_116 := rfl
theorem l304_132 : lkc cd304 132 = s304_132 := rfl
theorem l304_133 : lkc cd304 133 = s304_133 := rfl
theorem l304_137 : lkc cd304 137 = s304_137 := rfl
theorem k304 : chkM 304 16 true cd304 = true := by decide +kernel
/- FontHouseModel.zeros(I)V -/
def s305_0 : List E := [(.iload_n 1, 0, [1]), (.iconst 3, 3, []), (.if_icmp .ge 47, 0, [49]), (.iconst 0, 0, []), (.istore_n 2, 0, [2]), (.nop, 0, [7])]
def s305_7 : List E := [(.iload_n 2, 0, [2]), (.iload_n 1, 0, [1]), (.if_icmp .ge 39, 0, [48]), (.aload_n 0, 0, [0]), (.getfield 113, 32, [16, 44, 81, 1]), (.aload_n 0, 0, [0]), (.getfield 531, 0, [16, 46, 0]), (.iconst 0, 0, []), (.iastore, 0, []), (.aload_n 0, 0, [0]), (.getfield 116, 33, [16, 45, 81, 1]), (.aload_n 0, 0, [0]), (.getfield 531, 0, [16, 46, 0]), (.iconst (-1), -1, []), (.iastore, 0, []), (.aload_n 0, 0, [0]), (.dup, 0, []), (.getfield 531, 0, [16, 46, 0]), (.iconst 1, 1, []), (.iadd, 0, []), (.putfield 531, 0, [16, 46, 0]), (.iinc 2 1, 1, [2]), (.goto (-38), 0, [7])]
def s305_48 : List E := [(.return_, 0, [])]
def s305_49 : List E := [(.iconst 0, 0, []), (.istore_n 2, 0, [2]), (.iload_n 1, 0, [1]), (.istore_n 3, 0, [3]), (.iconst 1, 1, []), (.istore 4, 0, [4]), (.nop, 0, [56])]
def s305_56 : List E := [(.iload 4, 0, [4]), (.ifCond .eq 43, 0, [101]), (.aload_n 0, 0, [0]), (.getfield 119, 34, [16, 47, 81, 1]), (.iload_n 2, 0, [2]), (.iload_n 3, 0, [3]), (.iconst 3, 3, []), (.isub, 0, []), (.bipush 8, 8, []), (.irem, 0, []), (.iastore, 0, []), (.iinc 2 1, 1, [2]), (.iload_n 3, 0, [3]), (.bipush 10, 10, []), (.if_icmp .le 7, 0, [86]), (.iconst 1, 1, []), (.goto 4, 0, [87])]
def s305_86 : List E := [(.iconst 0, 0, []), (.nop, 0, [87])]
def s305_87 : List E := [(.istore 4, 0, [4]), (.iload_n 3, 0, [3]), (.iconst 3, 3, []), (.isub, 0, []), (.bipush 8, 8, []), (.idiv, 0, []), (.iconst 2, 2, []), (.iadd, 0, []), (.istore_n 3, 0, [3]), (.goto (-42), 0, [56])]
def s305_101 : List E := [(.iload_n 2, 0, [2]), (.iconst 1, 1, []), (.isub, 0, []), (.istore 5, 0, [5]), (.nop, 0, [106])]
def s305_106 : List E := [(.iload 5, 0, [5]), (.ifCond .lt 46, 0, [154]), (.aload_n 0, 0, [0]), (.getfield 113, 32, [16, 44, 81, 1]), (.aload_n 0, 0, [0]), (.getfield 531, 0, [16, 46, 0]), (.bipush 17, 17, []), (.iastore, 0, []), (.aload_n 0, 0, [0]), (.getfield 116, 33, [16, 45, 81, 1]), (.aload_n 0, 0, [0]), (.getfield 531, 0, [16, 46, 0]), (.aload_n 0, 0, [0]), (.getfield 119, 34, [16, 47, 81, 1]), (.iload 5, 0, [5]), (.iaload, 0, []), (.iastore, 0, []), (.aload_n 0, 0, [0]), (.dup, 0, []), (.getfield 531, 0, [16, 46, 0]), (.iconst 1, 1, []), (.iadd, 0, []), (.putfield 531, 0, [16, 46, 0]), (.iinc 5 (-1), -1, [5]), (.goto (-45), 0, [106])]
def s305_154 : List E := [(.return_, 0, [])]
def cd305 : List (Nat × List E) := [(0, s305_0), (7, s305_7), (48, s305_48), (49, s305_49), (56, s305_56), (86, s305_86), (87, s305_87), (101, s305_101), (106, s305_106), (154, s305_154)]
theorem l305_0 : lkc cd305 0 = s305_0 := rfl
theorem l305_7 : lkc cd305 7 = s305_7 := rfl
theorem l305_48 : lkc cd305 48 = s305_48 := rfl
theorem l305_49 : lkc cd305 49 = s305_49 := rfl
theorem l305_56 : lkc cd305 56 = s305_56 := rfl
theorem l305_86 : lkc cd305 86 = s305_86 := rfl
theorem l305_87 : lkc cd305 87 = s305_87 := rfl
theorem l305_101 : lkc cd305 101 = s305_101 := rfl
theorem l305_106 : lkc cd305 106 = s305_106 := rfl
theorem l305_154 : lkc cd305 154 = s305_154 := rfl
theorem k305 : chkM 305 16 true cd305 = true := by decide +kernel
/- FontHouseModel.tellLengthSymbols()V -/
def s306_0 : List E := [(.iconst 0, 0, []), (.istore_n 1, 0, [1]), (.iconst 0, 0, []), (.istore_n 2, 0, [2]), (.iconst 0, 0, []), (.istore_n 3, 0, [3]), (.nop, 0, [6])]
def s306_6 : List E := [(.iload_n 3, 0, [3]), (.bipush 18, 18, []), (.if_icmp .ge 49, 0, [58]), (.iload_n 1, 0, [1]), (.aload_n 0, 0, [0]), (.getfield 93, 26, [16, 38, 81, 1]), (.sipush 4928, 4928, []), (.iload_n 3, 0, [3]), (.iadd, 0, []), (.iaload, 0, []), (.ifCond .le 7, 0, [30]), (.iconst 1, 1, []), (.goto 4, 0, [31])]
def s306_30 : List E := [(.iconst 0, 0, []), (.nop, 0, [31])]
def s306_31 : List E := [(.iadd, 0, []), (.istore_n 1, 0, [1]), (.aload_n 0, 0, [0]), (.getfield 93, 26, [16, 38, 81, 1]), (.sipush 4928, 4928, []), (.iload_n 3, 0, [3]), (.iadd, 0, []), (.iaload, 0, []), (.ifCond .le 7, 0, [50]), (.iload_n 3, 0, [3]), (.goto 4, 0, [51])]
def s306_50 : List E := [(.iload_n 2, 0, [2]), (.nop, 0, [51])]
def s306_51 : List E := [(.istore_n 2, 0, [2]), (.iinc 3 1, 1, [3]), (.goto (-49), 0, [6])]
def s306_58 : List E := [(.aload_n 0, 0, [0]), (.bipush 7, 7, []), (.bipush 18, 18, []), (.iconst 5, 5, []), (.invokevirtual 534, 0, [301, 16, 33, 8, 0, 100, 0, 0, 0]), (.aload_n 0, 0, [0]), (.bipush 7, 7, []), (.bipush 18, 18, []), (.invokevirtual 538, 0, [303, 16, 33, 35, 0, 100, 0, 0]), (.bipush 32, 32, []), (.istore_n 3, 0, [3]), (.iconst 0, 0, []), (.istore 4, 0, [4]), (.nop, 0, [81])]
def s306_81 : List E := [(.iload 4, 0, [4]), (.bipush 18, 18, []), (.if_icmp .ge 176, 0, [261]), (.iload_n 3, 0, [3]), (.ifCond .le 172, 0, [261]), (.iload 4, 0, [4]), (.invokestatic 392, 0, [259, 41, 0, 0, 0]), (.istore 5, 0, [5]), (.iload_n 1, 0, [1]), (.iconst 1, 1, []), (.if_icmp .ne 17, 0, [118]), (.iload 5, 0, [5]), (.iload_n 2, 0, [2]), (.if_icmp .ne 7, 0, [114]), (.iconst 1, 1, []), (.goto 36, 0, [147])]
def s306_114 : List E := [(.iconst 0, 0, []), (.goto 32, 0, [147])]
def s306_118 : List E := [(.aload_n 0, 0, [0]), (.getfield 96, 27, [16, 39, 81, 1]), (.sipush 4928, 4928, []), (.iload 5, 0, [5]), (.iadd, 0, []), (.iaload, 0, []), (.ifCond .le 17, 0, [146]), (.aload_n 0, 0, [0]), (.getfield 96, 27, [16, 39, 81, 1]), (.sipush 4928, 4928, []), (.iload 5, 0, [5]), (.iadd, 0, []), (.iaload, 0, []), (.goto 4, 0, [147])]
def s306_146 : List E := [(.iconst 0, 0, []), (.nop, 0, [147])]
def s306_147 : List E := [(.istore 6, 0, [6]), (.iload_n 3, 0, [3]), (.iload 6, 0, [6]), (.ifCond .le 11, 0, [163]), (.bipush 32, 32, []), (.iload 6, 0, [6]), (.ishr, 0, []), (.goto 4, 0, [164])]
def s306_163 : List E := [(.iconst 0, 0, []), (.nop, 0, [164])]
def s306_164 : List E := [(.isub, 0, []), (.istore_n 3, 0, [3]), (.aload_n 0, 0, [0]), (.iload 6, 0, [6]), (.iconst 4, 4, []), (.if_icmp .ne 7, 0, [177]), (.iconst 1, 1, []), (.goto 46, 0, [220])]
def s306_177 : List E := [(.iload 6, 0, [6]), (.iconst 3, 3, []), (.if_icmp .ne 7, 0, [187]), (.iconst 2, 2, []), (.goto 36, 0, [220])]
def s306_187 : List E := [(.iload 6, 0, [6]), (.iconst 2, 2, []), (.if_icmp .ne 7, 0, [197]), (.iconst 3, 3, []), (.goto 26, 0, [220])]
def s306_197 : List E := [(.iload 6, 0, [6]), (.iconst 1, 1, []), (.if_icmp .ne 8, 0, [208]), (.bipush 7, 7, []), (.goto 15, 0, [220])]
def s306_208 : List E := [(.iload 6, 0, [6]), (.iconst 5, 5, []), (.if_icmp .ne 8, 0, [219]), (.bipush 15, 15, []), (.goto 4, 0, [220])]
def s306_219 : List E := [(.iconst 0, 0, []), (.nop, 0, [220])]
def s306_220 : List E := [(.iload 6, 0, [6]), (.ifCond .eq 15, 0, [237]), (.iload 6, 0, [6]), (.iconst 3, 3, []), (.if_icmp .eq 9, 0, [237]), (.iload 6, 0, [6]), (.iconst 4, 4, []), (.if_icmp .ne 7, 0, [241]), (.nop, 0, [237])]
def s306_237 : List E := [(.iconst 2, 2, []), (.goto 14, 0, [252])]
def s306_241 : List E := [(.iload 6, 0, [6]), (.iconst 2, 2, []), (.if_icmp .ne 7, 0, [251]), (.iconst 3, 3, []), (.goto 4, 0, [252])]
def s306_251 : List E := [(.iconst 4, 4, []), (.nop, 0, [252])]
def s306_252 : List E := [(.invokevirtual 523, 0, [287, 16, 33, 38, 0, 100, 0, 0]), (.iinc 4 1, 1, [4]), (.goto (-177), 0, [81])]
def s306_261 : List E := [(.iload_n 1, 0, [1]), (.iconst 1, 1, []), (.if_icmp .ne 14, 0, [277]), (.aload_n 0, 0, [0]), (.getfield 96, 27, [16, 39, 81, 1]), (.sipush 4928, 4928, []), (.iload_n 2, 0, [2]), (.iadd, 0, []), (.iconst 0, 0, []), (.iastore, 0, []), (.nop, 0, [277])]
def s306_277 : List E := [(.return_, 0, [])]
def cd306 : List (Nat × List E) := [(0, s306_0), (6, s306_6), (30, s306_30), (31, s306_31), (50, s306_50), (51, s306_51), (58, s306_58), (81, s306_81), (114, s306_114), (118, s306_118), (146, s306_146), (147, s306_147), (163, s306_163), (164, s306_164), (177, s306_177), (187, s306_187), (197, s306_197), (208, s306_208), (219, s306_219), (220, s306_220), (237, s306_237), (241, s306_241), (251, s306_251), (252, s306_252), (261, s306_261), (277, s306_277)]
theorem l306_0 : lkc cd306 0 = s306_0 := rfl
theorem l306_6 : lkc cd306 6 = s306_6 := rfl
theorem l306_30 : lkc cd306 30 = s306_30 := rfl
theorem l306_31 : lkc cd306 31 = s306_31 := rfl
theorem l306_50 : lkc cd306 50 = s306_50 := rfl
theorem l306_51 : lkc cd306 51 = s306_51 := rfl
theorem l306_58 : lkc cd306 58 = s306_58 := rfl
theorem l306_81 : lkc cd306 81 = s306_81 := rfl
theorem l306_114 : lkc cd306 114 = s306_114 := rfl
theorem l306_118 : lkc cd306 118 = s306_118 := rfl
theorem l306_146 : lkc cd306 146 = s306_146 := rfl
theorem l306_147 : lkc cd306 147 = s306_147 := rfl
theorem l306_163 : lkc cd306 163 = s306_163 := rfl
theorem l306_164 : lkc cd306 164 = s306_164 := rfl
theorem l306_177 : lkc cd306 177 = s306_177 := rfl
theorem l306_187 : lkc cd306 187 = s306_187 := rfl
theorem l306_197 : lkc cd306 197 = s306_197 := rfl
theorem l306_208 : lkc cd306 208 = s306_208 := rfl
theorem l306_219 : lkc cd306 219 = s306_219 := rfl
theorem l306_220 : lkc cd306 220 = s306_220 := rfl
theorem l306_237 : lkc cd306 237 = s306_237 := rfl
theorem l306_241 : lkc cd306 241 = s306_241 := rfl
theorem l306_251 : lkc cd306 251 = s306_251 := rfl
theorem l306_252 : lkc cd306 252 = s306_252 := rfl
theorem l306_261 : lkc cd306 261 = s306_261 := rfl
theorem l306_277 : lkc cd306 277 = s306_277 := rfl
theorem k306 : chkM 306 16 true cd306 = true := by decide +kernel
/- FontHouseModel.word(II)V -/
def s307_0 : List E := [(.aload_n 0, 0, [0]), (.getfield 96, 27, [16, 39, 81, 1]), (.sipush 704, 704, []), (.iload_n 1, 0, [1]), (.imul, 0, []), (.iload_n 2, 0, [2]), (.iadd, 0, []), (.iaload, 0, []), (.istore_n 3, 0, [3]), (.iload_n 3, 0, [3]), (.iconst 1, 1, []), (.isub, 0, []), (.istore 4, 0, [4]), (.nop, 0, [18])]
def s307_18 : List E := [(.iload 4, 0, [4]), (.ifCond .lt 29, 0, [49]), (.aload_n 0, 0, [0]), (.aload_n 0, 0, [0]), (.getfield 99, 28, [16, 40, 81, 1]), (.sipush 704, 704, []), (.iload_n 1, 0, [1]), (.imul, 0, []), (.iload_n 2, 0, [2]), (.iadd, 0, []), (.iaload, 0, []), (.iload 4, 0, [4]), (.ishr, 0, []), (.iconst 1, 1, []), (.invokevirtual 523, 0, [287, 16, 33, 8, 0, 100, 0, 0]), (.iinc 4 (-1), -1, [4]), (.goto (-28), 0, [18])]
def s307_49 : List E := [(.return_, 0, [])]
def cd307 : List (Nat × List E) := [(0, s307_0), (18, s307_18), (49, s307_49)]
theorem l307_0 : lkc cd307 0 = s307_0 := rfl
theorem l307_18 : lkc cd307 18 = s307_18 := rfl
theorem l307_49 : lkc cd307 49 = s307_49 := rfl
theorem k307 : chkM 307 16 true cd307 = true := by decide +kernel
/- FontHouseModel.tellActs(II)V -/
def s308_0 : List E := [(.iload_n 2, 0, [2]), (.istore_n 3, 0, [3]), (.iconst 0, 0, []), (.istore 4, 0, [4]), (.nop, 0, [5])]
def s308_5 : List E := [(.iload 4, 0, [4]), (.aload_n 0, 0, [0]), (.getfield 556, 0, [16, 33, 0]), (.if_icmp .ge 242, 0, [253]), (.aload_n 0, 0, [0]), (.iconst 4, 4, []), (.aload_n 0, 0, [0]), (.getfield 90, 25, [16, 37, 81, 1]), (.iload 4, 0, [4]), (.iaload, 0, []), (.sipush 1000, 1000, []), (.irem, 0, []), (.invokevirtual 550, 0, [307, 16, 33, 49, 0, 100, 0, 0]), (.aload_n 0, 0, [0]), (.getfield 81, 22, [16, 34, 81, 1]), (.iload 4, 0, [4]), (.iaload, 0, []), (.invokestatic 566, 0, [294, 54, 0, 0, 0]), (.istore 5, 0, [5]), (.aload_n 0, 0, [0]), (.aload_n 0, 0, [0]), (.getfield 81, 22, [16, 34, 81, 1]), (.iload 4, 0, [4]), (.iaload, 0, []), (.iload 5, 0, [5]), (.invokestatic 474, 0, [270, 75, 0, 0, 0]), (.isub, 0, []), (.iload 5, 0, [5]), (.invokestatic 477, 0, [271, 76, 0, 0, 0]), (.invokevirtual 523, 0, [287, 16, 33, 73, 0, 100, 0, 0]), (.aload_n 0, 0, [0]), (.getfield 84, 23, [16, 35, 81, 1]), (.iload 4, 0, [4]), (.iaload, 0, []), (.ifCond .ne 7, 0, [78]), (.iconst 0, 0, []), (.goto 13, 0, [88])]
def s308_78 : List E := [(.aload_n 0, 0, [0]), (.getfield 84, 23, [16, 35, 81, 1]), (.iload 4, 0, [4]), (.iaload, 0, []), (.invokestatic 569, 0, [295, 54, 0, 0, 0]), (.nop, 0, [88])]
def s308_88 : List E := [(.istore 6, 0, [6]), (.aload_n 0, 0, [0]), (.aload_n 0, 0, [0]), (.getfield 84, 23, [16, 35, 81, 1]), (.iload 4, 0, [4]), (.iaload, 0, []), (.ifCond .ne 7, 0, [105]), (.iconst 0, 0, []), (.goto 16, 0, [118])]
def s308_105 : List E := [(.aload_n 0, 0, [0]), (.getfield 84, 23, [16, 35, 81, 1]), (.iload 4, 0, [4]), (.iaload, 0, []), (.iload 6, 0, [6]), (.invokestatic 480, 0, [272, 75, 0, 0, 0]), (.isub, 0, []), (.nop, 0, [118])]
def s308_118 : List E := [(.iload 6, 0, [6]), (.invokestatic 483, 0, [273, 76, 0, 0, 0]), (.invokevirtual 523, 0, [287, 16, 33, 73, 0, 100, 0, 0]), (.iconst 0, 0, []), (.istore 7, 0, [7]), (.nop, 0, [129])]
def s308_129 : List E := [(.iload 7, 0, [7]), (.aload_n 0, 0, [0]), (.getfield 81, 22, [16, 34, 81, 1]), (.iload 4, 0, [4]), (.iaload, 0, []), (.if_icmp .ge 39, 0, [177]), (.aload_n 0, 0, [0]), (.iload_n 1, 0, [1]), (.aload_n 0, 0, [0]), (.iload_n 3, 0, [3]), (.iconst 1, 1, []), (.isub, 0, []), (.invokevirtual 584, 0, [289, 16, 33, 75, 0, 0, 0]), (.aload_n 0, 0, [0]), (.iload_n 3, 0, [3]), (.iconst 2, 2, []), (.isub, 0, []), (.invokevirtual 584, 0, [289, 16, 33, 75, 0, 0, 0]), (.invokestatic 587, 0, [297, 8, 0, 0, 0, 0, 0]), (.aload_n 0, 0, [0]), (.iload_n 3, 0, [3]), (.invokevirtual 584, 0, [289, 16, 33, 75, 0, 0, 0]), (.invokevirtual 550, 0, [307, 16, 33, 49, 0, 100, 0, 0]), (.iinc 3 1, 1, [3]), (.iinc 7 1, 1, [7]), (.goto (-45), 0, [129])]
def s308_177 : List E := [(.iload_n 3, 0, [3]), (.aload_n 0, 0, [0]), (.getfield 84, 23, [16, 35, 81, 1]), (.iload 4, 0, [4]), (.iaload, 0, []), (.iadd, 0, []), (.istore_n 3, 0, [3]), (.aload_n 0, 0, [0]), (.iload 4, 0, [4]), (.invokevirtual 590, 0, [298, 16, 33, 31, 0, 0, 0]), (.istore 7, 0, [7]), (.iload 7, 0, [7]), (.ifCond .lt 10, 0, [207]), (.aload_n 0, 0, [0]), (.iconst 5, 5, []), (.iload 7, 0, [7]), (.invokevirtual 550, 0, [307, 16, 33, 49, 0, 100, 0, 0]), (.nop, 0, [207])]
def s308_207 : List E := [(.iload 7, 0, [7]), (.bipush 16, 16, []), (.if_icmp .lt 36, 0, [247]), (.iconst 1, 1, []), (.iload 7, 0, [7]), (.bipush 16, 16, []), (.isub, 0, []), (.iconst 2, 2, []), (.idiv, 0, []), (.iadd, 0, []), (.istore 8, 0, [8]), (.aload_n 0, 0, [0]), (.aload_n 0, 0, [0]), (.getfield 87, 24, [16, 36, 81, 1]), (.iload 4, 0, [4]), (.iaload, 0, []), (.iconst 3, 3, []), (.iadd, 0, []), (.iconst 1, 1, []), (.iload 8, 0, [8]), (.ishl, 0, []), (.iconst 1, 1, []), (.isub, 0, []), (.iand, 0, []), (.iload 8, 0, [8]), (.invokevirtual 523, 0, [287, 16, 33, 73, 0, 100, 0, 0]), (.nop, 0, [247])]
def s308_247 : List E := [(.iinc 4 1, 1, [4]), (.goto (-245), 0, [5])]
def s308_253 : List E := [(.return_, 0, [])]
def cd308 : List (Nat × List E) := [(0, s308_0), (5, s308_5), (78, s308_78), (88, s308_88), (105, s308_105), (118, s308_118), (129, s308_129), (177, s308_177), (207, s308_207), (247, s308_247), (253, s308_253)]
theorem l308_0 : lkc cd308 0 = s308_0 := rfl
theorem l308_5 : lkc cd308 5 = s308_5 := rfl
theorem l308_78 : lkc cd308 78 = s308_78 := rfl
theorem l308_88 : lkc cd308 88 = s308_88 := rfl
theorem l308_105 : lkc cd308 105 = s308_105 := rfl
theorem l308_118 : lkc cd308 118 = s308_118 := rfl
theorem l308_129 : lkc cd308 129 = s308_129 := rfl
theorem l308_177 : lkc cd308 177 = s308_177 := rfl
theorem l308_207 : lkc cd308 207 = s308_207 := rfl
theorem l308_247 : lkc cd308 247 = s308_247 := rfl
theorem l308_253 : lkc cd308 253 = s308_253 := rfl
theorem k308 : chkM 308 16 true cd308 = true := by decide +kernel
/- FontHouseModel.bodies(I)I -/
def s309_0 : List E := [(.iload_n 1, 0, [1]), (.ifCond .lt 8, 0, [9]), (.iload_n 1, 0, [1]), (.iconst 1, 1, []), (.if_icmp .le 8, 0, [14]), (.nop, 0, [9])]
def s309_9 : List E := [(.bipush (-2), -2, []), (.goto 8, 0, [19])]
def s309_14 : List E := [(.aload_n 0, 0, [0]), (.iload_n 1, 0, [1]), (.invokevirtual 630, 0, [310, 16, 33, 8, 0, 0, 0]), (.nop, 0, [19])]
def s309_19 : List E := [(.ireturn, 0, [])]
def cd309 : List (Nat × List E) := [(0, s309_0), (9, s309_9), (14, s309_14), (19, s309_19)]
theorem l309_0 : lkc cd309 0 = s309_0 := rfl
theorem l309_9 : lkc cd309 9 = s309_9 := rfl
theorem l309_14 : lkc cd309 14 = s309_14 := rfl
theorem l309_19 : lkc cd309 19 = s309_19 := rfl
theorem k309 : chkM 309 16 true cd309 = true := by decide +kernel
/- FontHouseModel.totals(I)I -/
def s310_0 : List E := [(.iconst 0, 0, []), (.istore_n 2, 0, [2]), (.iconst 0, 0, []), (.istore_n 3, 0, [3]), (.iconst 0, 0, []), (.istore 4, 0, [4]), (.nop, 0, [7])]
def s310_7 : List E := [(.iload 4, 0, [4]), (.bipush 120, 120, []), (.if_icmp .ge 125, 0, [136]), (.iconst 0, 0, []), (.istore 5, 0, [5]), (.iconst 0, 0, []), (.istore 6, 0, [6]), (.nop, 0, [20])]
def s310_20 : List E := [(.iload 6, 0, [6]), (.iconst 4, 4, []), (.if_icmp .ge 75, 0, [98]), (.iload 5, 0, [5]), (.ifCond .ne 70, 0, [98]), (.iconst 0, 0, []), (.istore 7, 0, [7]), (.nop, 0, [34])]
def s310_34 : List E := [(.aload_n 0, 0, [0]), (.getfield 132, 38, [16, 53, 89, 1]), (.iload 6, 0, [6]), (.baload, 0, [44]), (.ifCond .eq 51, 0, [92]), (.iload 7, 0, [7]), (.aload_n 0, 0, [0]), (.getfield 138, 40, [16, 55, 81, 1]), (.iload 6, 0, [6]), (.iaload, 0, []), (.if_icmp .ge 39, 0, [92]), (.iload 5, 0, [5]), (.ifCond .ne 21, 0, [79]), (.aload_n 0, 0, [0]), (.getfield 144, 42, [16, 57, 81, 1]), (.bipush 16, 16, []), (.iload 6, 0, [6]), (.imul, 0, []), (.iload 7, 0, [7]), (.iadd, 0, []), (.iaload, 0, []), (.iload 4, 0, [4]), (.if_icmp .ne 7, 0, [83]), (.nop, 0, [79])]
def s310_79 : List E := [(.iconst 1, 1, []), (.goto 4, 0, [84])]
def s310_83 : List E := [(.iconst 0, 0, []), (.nop, 0, [84])]
def s310_84 : List E := [(.istore 5, 0, [5]), (.iinc 7 1, 1, [7]), (.goto (-55), 0, [34])]
def s310_92 : List E := [(.iinc 6 1, 1, [6]), (.goto (-75), 0, [20])]
def s310_98 : List E := [(.iload_n 2, 0, [2]), (.iload 5, 0, [5]), (.ifCond .eq 7, 0, [108]), (.iconst 1, 1, []), (.goto 4, 0, [109])]
def s310_108 : List E := [(.iconst 0, 0, []), (.nop, 0, [109])]
def s310_109 : List E := [(.iadd, 0, []), (.istore_n 2, 0, [2]), (.iload_n 3, 0, [3]), (.iload 5, 0, [5]), (.ifCond .eq 13, 0, [127]), (.aload_n 0, 0, [0]), (.getfield 126, 36, [16, 51, 81, 1]), (.iload 4, 0, [4]), (.iaload, 0, []), (.goto 4, 0, [128])]
def s310_127 : List E := [(.iconst 0, 0, []), (.nop, 0, [128])]
def s310_128 : List E := [(.iadd, 0, []), (.istore_n 3, 0, [3]), (.iinc 4 1, 1, [4]), (.goto (-126), 0, [7])]
def s310_136 : List E := [(.iload_n 1, 0, [1]), (.ifCond .ne 7, 0, [144]), (.iload_n 2, 0, [2]), (.goto 4, 0, [145])]
def s310_144 : List E := [(.iload_n 3, 0, [3]), (.nop, 0, [145])]
def s310_145 : List E := [(.ireturn, 0, [])]
def cd310 : List (Nat × List E) := [(0, s310_0), (7, s310_7), (20, s310_20), (34, s310_34), (79, s310_79), (83, s310_83), (84, s310_84), (92, s310_92), (98, s310_98), (108, s310_108), (109, s310_109), (127, s310_127), (128, s310_128), (136, s310_136), (144, s310_144), (145, s310_145)]
theorem l310_0 : lkc cd310 0 = s310_0 := rfl
theorem l310_7 : lkc cd310 7 = s310_7 := rfl
theorem l310_20 : lkc cd310 20 = s310_20 := rfl
theorem l310_34 : lkc cd310 34 = s310_34 := rfl
theorem l310_79 : lkc cd310 79 = s310_79 := rfl
theorem l310_83 : lkc cd310 83 = s310_83 := rfl
theorem l310_84 : lkc cd310 84 = s310_84 := rfl
theorem l310_92 : lkc cd310 92 = s310_92 := rfl
theorem l310_98 : lkc cd310 98 = s310_98 := rfl
theorem l310_108 : lkc cd310 108 = s310_108 := rfl
theorem l310_109 : lkc cd310 109 = s310_109 := rfl
theorem l310_127 : lkc cd310 127 = s310_127 := rfl
theorem l310_128 : lkc cd310 128 = s310_128 := rfl
theorem l310_136 : lkc cd310 136 = s310_136 := rfl
theorem l310_144 : lkc cd310 144 = s310_144 := rfl
theorem l310_145 : lkc cd310 145 = s310_145 := rfl
theorem k310 : chkM 310 16 true cd310 = true := by decide +kernel
/- FontHouseModel.found(I)I -/
def s311_0 : List E := [(.iload_n 1, 0, [1]), (.invokestatic 640, 0, [312, 52, 0, 3, 0]), (.ifCond .ne 5, 0, [9]), (.iconst (-1), -1, []), (.ireturn, 0, [])]
def s311_9 : List E := [(.aload_n 0, 0, [0]), (.invokevirtual 643, 0, [313, 16, 33, 28, 0, 100]), (.aload_n 0, 0, [0]), (.getfield 132, 38, [16, 53, 89, 1]), (.iload_n 1, 0, [1]), (.iconst 1, 1, []), (.bastore, 0, []), (.aload_n 0, 0, [0]), (.getfield 135, 39, [16, 54, 81, 1]), (.iload_n 1, 0, [1]), (.ldc_w 346, 65536, []), (.iastore, 0, []), (.aload_n 0, 0, [0]), (.getfield 138, 40, [16, 55, 81, 1]), (.iload_n 1, 0, [1]), (.iconst 0, 0, []), (.iastore, 0, []), (.aload_n 0, 0, [0]), (.bipush 54, 54, []), (.invokevirtual 621, 0, [316, 16, 33, 49, 0, 0, 0]), (.istore_n 2, 0, [2]), (.aload_n 0, 0, [0]), (.iload_n 2, 0, [2]), (.iconst 0, 0, []), (.ldc2_w 646, 65536, []), (.invokevirtual 648, 0, [317, 16, 33, 25, 0, 100, 5, 0, 0]), (.aload_n 0, 0, [0]), (.iload_n 2, 0, [2]), (.iconst 4, 4, []), (.ldc2_w 646, 65536, []), (.invokevirtual 648, 0, [317, 16, 33, 25, 0, 100, 5, 0, 0]), (.aload_n 0, 0, [0]), (.iload_n 2, 0, [2]), (.bipush 12, 12, []), (.ldc2_w 652, 1594834165, []), (.invokevirtual 648, 0, [317, 16, 33, 25, 0, 100, 5, 0, 0]), (.aload_n 0, 0, [0]), (.iload_n 2, 0, [2]), (.bipush 18, 18, []), (.sipush 1000, 1000, []), (.invokevirtual 618, 0, [318, 16, 33, 49, 0, 100, 0, 0, 0]), (.aload_n 0, 0, [0]), (.iload_n 2, 0, [2]), (.bipush 46, 46, []), (.bipush 8, 8, []), (.invokevirtual 618, 0, [318, 16, 33, 49, 0, 100, 0, 0, 0]), (.aload_n 0, 0, [0]), (.iload_n 2, 0, [2]), (.bipush 48, 48, []), (.iconst 2, 2, []), (.invokevirtual 618, 0, [318, 16, 33, 49, 0, 100, 0, 0, 0]), (.aload_n 0, 0, [0]), (.iload_n 2, 0, [2]), (.bipush 50, 50, []), (.iconst 1, 1, []), (.invokevirtual 618, 0, [318, 16, 33, 49, 0, 100, 0, 0, 0]), (.aload_n 0, 0, [0]), (.bipush 36, 36, []), (.invokevirtual 621, 0, [316, 16, 33, 49, 0, 0, 0]), (.istore_n 3, 0, [3]), (.aload_n 0, 0, [0]), (.iload_n 3, 0, [3]), (.iconst 0, 0, []), (.ldc2_w 646, 65536, []), (.invokevirtual 648, 0, [317, 16, 33, 25, 0, 100, 5, 0, 0]), (.aload_n 0, 0, [0]), (.iload_n 3, 0, [3]), (.bipush 34, 34, []), (.iconst 1, 1, []), (.invokevirtual 618, 0, [318, 16, 33, 49, 0, 100, 0, 0, 0]), (.aload_n 0, 0, [0]), (.bipush 6, 6, []), (.invokevirtual 621, 0, [316, 16, 33, 49, 0, 0, 0]), (.istore 4, 0, [4]), (.aload_n 0, 0, [0]), (.iload 4, 0, [4]), (.iconst 0, 0, []), (.ldc2_w 654, 20480, []), (.invokevirtual 648, 0, [317, 16, 33, 25, 0, 100, 5, 0, 0]), (.aload_n 0, 0, [0]), (.iload 4, 0, [4]), (.iconst 4, 4, []), (.iconst 1, 1, []), (.invokevirtual 618, 0, [318, 16, 33, 49, 0, 100, 0, 0, 0]), (.aload_n 0, 0, [0]), (.iload_n 1, 0, [1]), (.ldc2_w 656, 1751474532, []), (.iload_n 2, 0, [2]), (.invokevirtual 658, 0, [319, 16, 33, 23, 0, 100, 0, 5, 0]), (.aload_n 0, 0, [0]), (.iload_n 1, 0, [1]), (.ldc2_w 662, 1751672161, []), (.iload_n 3, 0, [3]), (.invokevirtual 658, 0, [319, 16, 33, 23, 0, 100, 0, 5, 0]), (.aload_n 0, 0, [0]), (.iload_n 1, 0, [1]), (.ldc2_w 664, 1835104368, []), (.iload 4, 0, [4]), (.invokevirtual 658, 0, [319, 16, 33, 23, 0, 100, 0, 5, 0]), (.aload_n 0, 0, [0]), (.iload_n 1, 0, [1]), (.ldc2_w 666, 1735162214, []), (.aload_n 0, 0, [0]), (.iconst 0, 0, []), (.invokevirtual 621, 0, [316, 16, 33, 49, 0, 0, 0]), (.invokevirtual 658, 0, [319, 16, 33, 23, 0, 100, 0, 5, 0]), (.aload_n 0, 0, [0]), (.iload_n 1, 0, [1]), (.ldc2_w 668, 1752003704, []), (.aload_n 0, 0, [0]), (.iconst 4, 4, []), (.invokevirtual 621, 0, [316, 16, 33, 49, 0, 0, 0]), (.invokevirtual 658, 0, [319, 16, 33, 23, 0, 100, 0, 5, 0]), (.aload_n 0, 0, [0]), (.iload_n 1, 0, [1]), (.ldc2_w 670, 1819239265, []), (.aload_n 0, 0, [0]), (.bipush 8, 8, []), (.invokevirtual 621, 0, [316, 16, 33, 49, 0, 0, 0]), (.invokevirtual 658, 0, [319, 16, 33, 23, 0, 100, 0, 5, 0]), (.aload_n 0, 0, [0]), (.invokevirtual 672, 0, [321, 16, 33, 8, 0, 3]), (.ifCond .eq 7, 0, [235]), (.iconst 1, 1, []), (.goto 5, 0, [237])]
def s311_235 : List E := [(.bipush (-4), -4, []), (.nop, 0, [237])]
def s311_237 : List E := [(.ireturn, 0, [])]
def cd311 : List (Nat × List E) := [(0, s311_0), (9, s311_9), (235, s311_235), (237, s311_237)]
theorem l311_0 : lkc cd311 0 = s311_0 := rfl
theorem l311_9 : lkc cd311 9 = s311_9 := rfl
theorem l311_235 : lkc cd311 235 = s311_235 := rfl
theorem l311_237 : lkc cd311 237 = s311_237 := rfl
theorem k311 : chkM 311 16 true cd311 = true := by decide +kernel
/- FontHouseModel.isPlace(I)Z -/
def s312_0 : List E := [(.iload_n 0, 0, [0]), (.ifCond .lt 12, 0, [13]), (.iload_n 0, 0, [0]), (.iconst 4, 4, []), (.if_icmp .ge 7, 0, [13]), (.iconst 1, 1, []), (.goto 4, 0, [14])]
def s312_13 : List E := [(.iconst 0, 0, []), (.nop, 0, [14])]
def s312_14 : List E := [(.ireturn, 0, [1])]
def cd312 : List (Nat × List E) := [(0, s312_0), (13, s312_13), (14, s312_14)]
theorem l312_0 : lkc cd312 0 = s312_0 := rfl
theorem l312_13 : lkc cd312 13 = s312_13 := rfl
theorem l312_14 : lkc cd312 14 = s312_14 := rfl
theorem k312 : chkM 312 16 true cd312 = true := by decide +kernel
/- FontHouseModel.keep()V -/
def s313_0 : List E := [(.iconst 0, 0, []), (.istore_n 1, 0, [1]), (.nop, 0, [2])]
def s313_2 : List E := [(.iload_n 1, 0, [1]), (.iconst 4, 4, []), (.if_icmp .ge 17, 0, [21]), (.aload_n 0, 0, [0]), (.iload_n 1, 0, [1]), (.iconst 4, 4, []), (.iload_n 1, 0, [1]), (.iadd, 0, []), (.invokevirtual 624, 0, [314, 16, 33, 8, 0, 100, 0, 0]), (.iinc 1 1, 1, [1]), (.goto (-16), 0, [2])]
def s313_21 : List E := [(.aload_n 0, 0, [0]), (.invokevirtual 627, 0, [315, 16, 33, 9, 0, 100]), (.return_, 0, [])]
def cd313 : List (Nat × List E) := [(0, s313_0), (2, s313_2), (21, s313_21)]
theorem l313_0 : lkc cd313 0 = s313_0 := rfl
theorem l313_2 : lkc cd313 2 = s313_2 := rfl
theorem l313_21 : lkc cd313 21 = s313_21 := rfl
theorem k313 : chkM 313 16 true cd313 = true := by decide +kernel
/- FontHouseModel.take(II)V -/
def s314_0 : List E := [(.aload_n 0, 0, [0]), (.getfield 132, 38, [16, 53, 89, 1]), (.iload_n 2, 0, [2]), (.aload_n 0, 0, [0]), (.getfield 132, 38, [16, 53, 89, 1]), (.iload_n 1, 0, [1]), (.baload, 0, [44]), (.bastore, 0, []), (.aload_n 0, 0, [0]), (.getfield 135, 39, [16, 54, 81, 1]), (.iload_n 2, 0, [2]), (.aload_n 0, 0, [0]), (.getfield 135, 39, [16, 54, 81, 1]), (.iload_n 1, 0, [1]), (.iaload, 0, []), (.iastore, 0, []), (.aload_n 0, 0, [0]), (.getfield 138, 40, [16, 55, 81, 1]), (.iload_n 2, 0, [2]), (.aload_n 0, 0, [0]), (.getfield 138, 40, [16, 55, 81, 1]), (.iload_n 1, 0, [1]), (.iaload, 0, []), (.iastore, 0, []), (.iconst 0, 0, []), (.istore_n 3, 0, [3]), (.nop, 0, [38])]
def s314_38 : List E := [(.iload_n 3, 0, [3]), (.bipush 16, 16, []), (.if_icmp .ge 53, 0, [94]), (.aload_n 0, 0, [0]), (.getfield 141, 41, [16, 56, 87, 1]), (.bipush 16, 16, []), (.iload_n 2, 0, [2]), (.imul, 0, []), (.iload_n 3, 0, [3]), (.iadd, 0, []), (.aload_n 0, 0, [0]), (.getfield 141, 41, [16, 56, 87, 1]), (.bipush 16, 16, []), (.iload_n 1, 0, [1]), (.imul, 0, []), (.iload_n 3, 0, [3]), (.iadd, 0, []), (.laload, 0, []), (.lastore, 0, []), (.aload_n 0, 0, [0]), (.getfield 144, 42, [16, 57, 81, 1]), (.bipush 16, 16, []), (.iload_n 2, 0, [2]), (.imul, 0, []), (.iload_n 3, 0, [3]), (.iadd, 0, []), (.aload_n 0, 0, [0]), (.getfield 144, 42, [16, 57, 81, 1]), (.bipush 16, 16, []), (.iload_n 1, 0, [1]), (.imul, 0, []), (.iload_n 3, 0, [3]), (.iadd, 0, []), (.iaload, 0, []), (.iastore, 0, []), (.iinc 3 1, 1, [3]), (.goto (-53), 0, [38])]
def s314_94 : List E := [(.return_, 0, [])]
def cd314 : List (Nat × List E) := [(0, s314_0), (38, s314_38), (94, s314_94)]
theorem l314_0 : lkc cd314 0 = s314_0 := rfl
theorem l314_38 : lkc cd314 38 = s314_38 := rfl
theorem l314_94 : lkc cd314 94 = s314_94 := rfl
theorem k314 : chkM 314 16 true cd314 = true := by decide +kernel
/- FontHouseModel.mark()V -/
def s315_0 : List E := [(.iconst 0, 0, []), (.istore_n 1, 0, [1]), (.nop, 0, [2])]
def s315_2 : List E := [(.iload_n 1, 0, [1]), (.bipush 120, 120, []), (.if_icmp .ge 16, 0, [21]), (.aload_n 0, 0, [0]), (.getfield 129, 37, [16, 52, 89, 1]), (.iload_n 1, 0, [1]), (.iconst 0, 0, []), (.bastore, 0, []), (.iinc 1 1, 1, [1]), (.goto (-16), 0, [2])]
def s315_21 : List E := [(.iconst 0, 0, []), (.istore_n 1, 0, [1]), (.nop, 0, [23])]
def s315_23 : List E := [(.iload_n 1, 0, [1]), (.bipush 8, 8, []), (.if_icmp .ge 53, 0, [79]), (.iconst 0, 0, []), (.istore_n 2, 0, [2]), (.nop, 0, [31])]
def s315_31 : List E := [(.aload_n 0, 0, [0]), (.getfield 132, 38, [16, 53, 89, 1]), (.iload_n 1, 0, [1]), (.baload, 0, [44]), (.ifCond .eq 36, 0, [73]), (.iload_n 2, 0, [2]), (.aload_n 0, 0, [0]), (.getfield 138, 40, [16, 55, 81, 1]), (.iload_n 1, 0, [1]), (.iaload, 0, []), (.if_icmp .ge 26, 0, [73]), (.aload_n 0, 0, [0]), (.getfield 129, 37, [16, 52, 89, 1]), (.aload_n 0, 0, [0]), (.getfield 144, 42, [16, 57, 81, 1]), (.bipush 16, 16, []), (.iload_n 1, 0, [1]), (.imul, 0, []), (.iload_n 2, 0, [2]), (.iadd, 0, []), (.iaload, 0, []), (.iconst 1, 1, []), (.bastore, 0, []), (.iinc 2 1, 1, [2]), (.goto (-39), 0, [31])]
def s315_73 : List E := [(.iinc 1 1, 1, [1]), (.goto (-53), 0, [23])]
def s315_79 : List E := [(.return_, 0, [])]
def cd315 : List (Nat × List E) := [(0, s315_0), (2, s315_2), (21, s315_21), (23, s315_23), (31, s315_31), (73, s315_73), (79, s315_79)]
theorem l315_0 : lkc cd315 0 = s315_0 := rfl
theorem l315_2 : lkc cd315 2 = s315_2 := rfl
theorem l315_21 : lkc cd315 21 = s315_21 := rfl
theorem l315_23 : lkc cd315 23 = s315_23 := rfl
theorem l315_31 : lkc cd315 31 = s315_31 := rfl
theorem l315_73 : lkc cd315 73 = s315_73 := rfl
theorem l315_79 : lkc cd315 79 = s315_79 := rfl
theorem k315 : chkM 315 16 true cd315 = true := by decide +kernel
/- FontHouseModel.fresh(I)I -/
def s316_0 : List E := [(.iconst 0, 0, []), (.istore_n 2, 0, [2]), (.nop, 0, [2])]
def s316_2 : List E := [(.aload_n 0, 0, [0]), (.getfield 129, 37, [16, 52, 89, 1]), (.iload_n 2, 0, [2]), (.baload, 0, [44]), (.ifCond .eq 9, 0, [17]), (.iinc 2 1, 1, [2]), (.goto (-12), 0, [2])]
def s316_17 : List E := [(.aload_n 0, 0, [0]), (.getfield 129, 37, [16, 52, 89, 1]), (.iload_n 2, 0, [2]), (.iconst 1, 1, []), (.bastore, 0, []), (.aload_n 0, 0, [0]), (.getfield 126, 36, [16, 51, 81, 1]), (.iload_n 2, 0, [2]), (.iload_n 1, 0, [1]), (.iastore, 0, []), (.iconst 0, 0, []), (.istore_n 3, 0, [3]), (.nop, 0, [33])]
def s316_33 : List E := [(.iload_n 3, 0, [3]), (.iload_n 1, 0, [1]), (.if_icmp .ge 22, 0, [57]), (.aload_n 0, 0, [0]), (.getfield 123, 35, [16, 50, 83, 1]), (.sipush 12000, 12000, []), (.iload_n 2, 0, [2]), (.imul, 0, []), (.iload_n 3, 0, [3]), (.iadd, 0, []), (.iconst 0, 0, []), (.bastore, 0, [41]), (.iinc 3 1, 1, [3]), (.goto (-21), 0, [33])]
def s316_57 : List E := [(.iload_n 2, 0, [2]), (.ireturn, 0, [])]
def cd316 : List (Nat × List E) := [(0, s316_0), (2, s316_2), (17, s316_17), (33, s316_33), (57, s316_57)]
theorem l316_0 : lkc cd316 0 = s316_0 := rfl
theorem l316_2 : lkc cd316 2 = s316_2 := rfl
theorem l316_17 : lkc cd316 17 = s316_17 := rfl
theorem l316_33 : lkc cd316 33 = s316_33 := rfl
theorem l316_57 : lkc cd316 57 = s316_57 := rfl
theorem k316 : chkM 316 16 true cd316 = true := by decide +kernel
/- FontHouseModel.setFour(IIJ)V -/
def s317_0 : List E := [(.aload_n 0, 0, [0]), (.iload_n 1, 0, [1]), (.iload_n 2, 0, [2]), (.lload_n 3, 0, [3]), (.bipush 16, 16, []), (.lshr, 0, []), (.l2i, 0, []), (.invokevirtual 618, 0, [318, 16, 33, 8, 0, 100, 0, 0, 0]), (.aload_n 0, 0, [0]), (.iload_n 1, 0, [1]), (.iload_n 2, 0, [2]), (.iconst 2, 2, []), (.iadd, 0, []), (.lload_n 3, 0, [3]), (.l2i, 0, []), (.invokevirtual 618, 0, [318, 16, 33, 8, 0, 100, 0, 0, 0]), (.return_, 0, [])]
def cd317 : List (Nat × List E) := [(0, s317_0)]
theorem l317_0 : lkc cd317 0 = s317_0 := rfl
theorem k317 : chkM 317 16 true cd317 = true := by decide +kernel
/- FontHouseModel.setTwo(III)V -/
def s318_0 : List E := [(.aload_n 0, 0, [0]), (.getfield 123, 35, [16, 50, 83, 1]), (.sipush 12000, 12000, []), (.iload_n 1, 0, [1]), (.imul, 0, []), (.iload_n 2, 0, [2]), (.iadd, 0, []), (.iload_n 3, 0, [3]), (.bipush 8, 8, []), (.ishr, 0, []), (.i2b, 0, []), (.bastore, 0, [41]), (.aload_n 0, 0, [0]), (.getfield 123, 35, [16, 50, 83, 1]), (.sipush 12000, 12000, []), (.iload_n 1, 0, [1]), (.imul, 0, []), (.iload_n 2, 0, [2]), (.iadd, 0, []), (.iconst 1, 1, []), (.iadd, 0, []), (.iload_n 3, 0, [3]), (.i2b, 0, []), (.bastore, 0, [41]), (.return_, 0, [])]
def cd318 : List (Nat × List E) := [(0, s318_0)]
theorem l318_0 : lkc cd318 0 = s318_0 := rfl
theorem k318 : chkM 318 16 true cd318 = true := by decide +kernel
/- FontHouseModel.give(IJI)V -/
def s319_0 : List E := [(.aload_n 0, 0, [0]), (.iload_n 1, 0, [1]), (.lload_n 2, 0, [2]), (.invokevirtual 636, 0, [320, 16, 33, 8, 0, 0, 5, 0]), (.istore 5, 0, [5]), (.iload 5, 0, [5]), (.ifCond .ge 116, 0, [126]), (.aload_n 0, 0, [0]), (.getfield 138, 40, [16, 55, 81, 1]), (.iload_n 1, 0, [1]), (.iaload, 0, []), (.istore 5, 0, [5]), (.aload_n 0, 0, [0]), (.getfield 138, 40, [16, 55, 81, 1]), (.iload_n 1, 0, [1]), (.dup2, 0, []), (.iaload, 0, []), (.iconst 1, 1, []), (.iadd, 0, []), (.iastore, 0, []), (.nop, 0, [31])]
def s319_31 : List E := [(.iload 5, 0, [5]), (.ifCond .le 80, 0, [113]), (.aload_n 0, 0, [0]), (.getfield 141, 41, [16, 56, 87, 1]), (.bipush 16, 16, []), (.iload_n 1, 0, [1]), (.imul, 0, []), (.iload 5, 0, [5]), (.iadd, 0, []), (.iconst 1, 1, []), (.isub, 0, []), (.laload, 0, []), (.lload_n 2, 0, [2]), (.lcmp, 0, []), (.ifCond .le 61, 0, [113]), (.aload_n 0, 0, [0]), (.getfield 141, 41, [16, 56, 87, 1]), (.bipush 16, 16, []), (.iload_n 1, 0, [1]), (.imul, 0, []), (.iload 5, 0, [5]), (.iadd, 0, []), (.aload_n 0, 0, [0]), (.getfield 141, 41, [16, 56, 87, 1]), (.bipush 16, 16, []), (.iload_n 1, 0, [1]), (.imul, 0, []), (.iload 5, 0, [5]), (.iadd, 0, []), (.iconst 1, 1, []), (.isub, 0, []), (.laload, 0, []), (.lastore, 0, []), (.aload_n 0, 0, [0]), (.getfield 144, 42, [16, 57, 81, 1]), (.bipush 16, 16, []), (.iload_n 1, 0, [1]), (.imul, 0, []), (.iload 5, 0, [5]), (.iadd, 0, []), (.aload_n 0, 0, [0]), (.getfield 144, 42, [16, 57, 81, 1]), (.bipush 16, 16, []), (.iload_n 1, 0, [1]), (.imul, 0, []), (.iload 5, 0, [5]), (.iadd, 0, []), (.iconst 1, 1, []), (.isub, 0, []), (.iaload, 0, []), (.iastore, 0, []), (.iinc 5 (-1), -1, [5]), (.goto (-79), 0, [31])]
def s319_113 : List E := [(.aload_n 0, 0, [0]), (.getfield 141, 41, [16, 56, 87, 1]), (.bipush 16, 16, []), (.iload_n 1, 0, [1]), (.imul, 0, []), (.iload 5, 0, [5]), (.iadd, 0, []), (.lload_n 2, 0, [2]), (.lastore, 0, []), (.nop, 0, [126])]
def s319_126 : List E := [(.aload_n 0, 0, [0]), (.getfield 144, 42, [16, 57, 81, 1]), (.bipush 16, 16, []), (.iload_n 1, 0, [1]), (.imul, 0, []), (.iload 5, 0, [5]), (.iadd, 0, []), (.iload 4, 0, [4]), (.iastore, 0, []), (.return_, 0, [])]
def cd319 : List (Nat × List E) := [(0, s319_0), (31, s319_31), (113, s319_113), (126, s319_126)]
theorem l319_0 : lkc cd319 0 = s319_0 := rfl
theorem l319_31 : lkc cd319 31 = s319_31 := rfl
theorem l319_113 : lkc cd319 113 = s319_113 := rfl
theorem l319_126 : lkc cd319 126 = s319_126 := rfl
theorem k319 : chkM 319 16 true cd319 = true := by decide +kernel
/- FontHouseModel.tableOf(IJ)I -/
def s320_0 : List E := [(.iconst 0, 0, []), (.istore 4, 0, [4]), (.nop, 0, [3])]
def s320_3 : List E := [(.iload 4, 0, [4]), (.aload_n 0, 0, [0]), (.getfield 138, 40, [16, 55, 81, 1]), (.iload_n 1, 0, [1]), (.iaload, 0, []), (.if_icmp .ge 29, 0, [40]), (.aload_n 0, 0, [0]), (.getfield 141, 41, [16, 56, 87, 1]), (.bipush 16, 16, []), (.iload_n 1, 0, [1]), (.imul, 0, []), (.iload 4, 0, [4]), (.iadd, 0, []), (.laload, 0, []), (.lload_n 2, 0, [2]), (.lcmp, 0, []), (.ifCond .ne 6, 0, [34]), (.iload 4, 0, [4]), (.ireturn, 0, [])]
def s320_34 : List E := [(.iinc 4 1, 1, [4]), (.goto (-34), 0, [3])]
def s320_40 : List E := [(.iconst (-1), -1, []), (.ireturn, 0, [])]
def cd320 : List (Nat × List E) := [(0, s320_0), (3, s320_3), (34, s320_34), (40, s320_40)]
theorem l320_0 : lkc cd320 0 = s320_0 := rfl
theorem l320_3 : lkc cd320 3 = s320_3 := rfl
theorem l320_34 : lkc cd320 34 = s320_34 := rfl
theorem l320_40 : lkc cd320 40 = s320_40 := rfl
theorem k320 : chkM 320 16 true cd320 = true := by decide +kernel
/- FontHouseModel.stays()Z -/
def s321_0 : List E := [(.aload_n 0, 0, [0]), (.iconst 0, 0, []), (.invokevirtual 630, 0, [310, 16, 33, 25, 0, 0, 0]), (.bipush 40, 40, []), (.if_icmp .gt 16, 0, [23]), (.aload_n 0, 0, [0]), (.iconst 1, 1, []), (.invokevirtual 630, 0, [310, 16, 33, 25, 0, 0, 0]), (.sipush 30000, 30000, []), (.if_icmp .gt 5, 0, [23]), (.iconst 1, 1, []), (.ireturn, 0, [1])]
def s321_23 : List E := [(.aload_n 0, 0, [0]), (.invokevirtual 633, 0, [322, 16, 33, 8, 0, 100]), (.iconst 0, 0, []), (.ireturn, 0, [1])]
def cd321 : List (Nat × List E) := [(0, s321_0), (23, s321_23)]
theorem l321_0 : lkc cd321 0 = s321_0 := rfl
theorem l321_23 : lkc cd321 23 = s321_23 := rfl
theorem k321 : chkM 321 16 true cd321 = true := by decide +kernel
/- FontHouseModel.undo()V -/
def s322_0 : List E := [(.iconst 0, 0, []), (.istore_n 1, 0, [1]), (.nop, 0, [2])]
def s322_2 : List E := [(.iload_n 1, 0, [1]), (.iconst 4, 4, []), (.if_icmp .ge 17, 0, [21]), (.aload_n 0, 0, [0]), (.iconst 4, 4, []), (.iload_n 1, 0, [1]), (.iadd, 0, []), (.iload_n 1, 0, [1]), (.invokevirtual 624, 0, [314, 16, 33, 8, 0, 100, 0, 0]), (.iinc 1 1, 1, [1]), (.goto (-16), 0, [2])]
def s322_21 : List E := [(.return_, 0, [])]
def cd322 : List (Nat × List E) := [(0, s322_0), (2, s322_2), (21, s322_21)]
theorem l322_0 : lkc cd322 0 = s322_0 := rfl
theorem l322_2 : lkc cd322 2 = s322_2 := rfl
theorem l322_21 : lkc cd322 21 = s322_21 := rfl
theorem k322 : chkM 322 16 true cd322 = true := by decide +kernel
/- FontHouseModel.load(II)I -/
def s323_0 : List E := [(.iload_n 1, 0, [1]), (.invokestatic 329, 0, [229, 106, 0, 3, 0]), (.ifCond .eq 10, 0, [14]), (.iload_n 2, 0, [2]), (.invokestatic 640, 0, [312, 106, 0, 3, 0]), (.ifCond .ne 5, 0, [16]), (.nop, 0, [14])]
def s323_14 : List E := [(.iconst (-1), -1, []), (.ireturn, 0, [])]
def s323_16 : List E := [(.aload_n 0, 0, [0]), (.getfield 18, 0, [16, 3, 0]), (.istore_n 3, 0, [3]), (.aload_n 0, 0, [0]), (.iload_n 1, 0, [1]), (.iconst 0, 0, []), (.invokevirtual 729, 0, [324, 16, 33, 8, 0, 0, 3, 0]), (.istore 4, 0, [4]), (.iload 4, 0, [4]), (.ifCond .ge 6, 0, [37]), (.iload 4, 0, [4]), (.ireturn, 0, [])]
def s323_37 : List E := [(.aload_n 0, 0, [0]), (.invokevirtual 643, 0, [313, 16, 33, 82, 0, 100]), (.aload_n 0, 0, [0]), (.iload_n 1, 0, [1]), (.iload_n 2, 0, [2]), (.invokevirtual 732, 0, [335, 16, 33, 52, 0, 100, 0, 0]), (.aload_n 0, 0, [0]), (.invokevirtual 672, 0, [321, 16, 33, 62, 0, 3]), (.ifCond .ne 11, 0, [62]), (.aload_n 0, 0, [0]), (.iload_n 3, 0, [3]), (.putfield 18, 0, [16, 3, 0]), (.bipush (-4), -4, []), (.ireturn, 0, [])]
def s323_62 : List E := [(.aload_n 0, 0, [0]), (.getfield 138, 40, [16, 55, 81, 1]), (.iload_n 2, 0, [2]), (.iaload, 0, []), (.ireturn, 0, [])]
def cd323 : List (Nat × List E) := [(0, s323_0), (14, s323_14), (16, s323_16), (37, s323_37), (62, s323_62)]
theorem l323_0 : lkc cd323 0 = s323_0 := rfl
theorem l323_14 : lkc cd323 14 = s323_14 := rfl
theorem l323_16 : lkc cd323 16 = s323_16 := rfl
theorem l323_37 : lkc cd323 37 = s323_37 := rfl
theorem l323_62 : lkc cd323 62 = s323_62 := rfl
theorem k323 : chkM 323 16 true cd323 = true := by decide +kernel
