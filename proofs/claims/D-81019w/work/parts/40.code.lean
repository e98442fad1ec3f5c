set_option maxRecDepth 100000
/- FontHouseModel.wanted(I)V -/
def s267_0 : List E := [(.aload_n 0, 0, [0]), (.getfield 48, 11, [16, 16, 81, 1]), (.iload_n 1, 0, [1]), (.iaload, 0, []), (.iconst 2, 2, []), (.if_icmp .ge 4, 0, [11]), (.return_, 0, [])]
def s267_11 : List E := [(.aload_n 0, 0, [0]), (.getfield 57, 14, [16, 19, 81, 1]), (.iload_n 1, 0, [1]), (.iaload, 0, []), (.ifCond .ne 127, 0, [144]), (.aload_n 0, 0, [0]), (.sipush 768, 768, []), (.iload_n 1, 0, [1]), (.iadd, 0, []), (.invokevirtual 396, 0, [261, 16, 33, 30, 0, 0, 0]), (.istore_n 2, 0, [2]), (.aload_n 0, 0, [0]), (.getfield 343, 0, [16, 2, 0]), (.ifCond .le 4, 0, [38]), (.return_, 0, [])]
def s267_38 : List E := [(.iload_n 2, 0, [2]), (.ifCond .ne 12, 0, [51]), (.aload_n 0, 0, [0]), (.getfield 54, 13, [16, 18, 81, 1]), (.iload_n 1, 0, [1]), (.iaload, 0, []), (.goto 43, 0, [91])]
def s267_51 : List E := [(.iload_n 2, 0, [2]), (.iconst 1, 1, []), (.if_icmp .ne 35, 0, [88]), (.aload_n 0, 0, [0]), (.getfield 51, 12, [16, 17, 81, 1]), (.iload_n 1, 0, [1]), (.iaload, 0, []), (.iconst 1, 1, []), (.iadd, 0, []), (.aload_n 0, 0, [0]), (.getfield 48, 11, [16, 16, 81, 1]), (.iload_n 1, 0, [1]), (.iaload, 0, []), (.if_icmp .ge 14, 0, [84]), (.aload_n 0, 0, [0]), (.getfield 51, 12, [16, 17, 81, 1]), (.iload_n 1, 0, [1]), (.iaload, 0, []), (.iconst 1, 1, []), (.iadd, 0, []), (.goto 10, 0, [91])]
def s267_84 : List E := [(.iconst 0, 0, []), (.goto 6, 0, [91])]
def s267_88 : List E := [(.iload_n 2, 0, [2]), (.iconst 2, 2, []), (.isub, 0, []), (.nop, 0, [91])]
def s267_91 : List E := [(.istore_n 3, 0, [3]), (.aload_n 0, 0, [0]), (.getfield 54, 13, [16, 18, 81, 1]), (.iload_n 1, 0, [1]), (.aload_n 0, 0, [0]), (.getfield 51, 12, [16, 17, 81, 1]), (.iload_n 1, 0, [1]), (.iaload, 0, []), (.iastore, 0, []), (.aload_n 0, 0, [0]), (.getfield 51, 12, [16, 17, 81, 1]), (.iload_n 1, 0, [1]), (.iload_n 3, 0, [3]), (.iastore, 0, []), (.aload_n 0, 0, [0]), (.getfield 57, 14, [16, 19, 81, 1]), (.iload_n 1, 0, [1]), (.aload_n 0, 0, [0]), (.iload_n 1, 0, [1]), (.invokevirtual 408, 0, [262, 16, 33, 8, 0, 0, 0]), (.iastore, 0, []), (.aload_n 0, 0, [0]), (.getfield 28, 5, [16, 9, 81, 1]), (.bipush 10, 10, []), (.dup2, 0, []), (.iaload, 0, []), (.aload_n 0, 0, [0]), (.getfield 343, 0, [16, 2, 0]), (.ifCond .ne 7, 0, [141]), (.iconst 1, 1, []), (.goto 4, 0, [142])]
def s267_141 : List E := [(.iconst 0, 0, []), (.nop, 0, [142])]
def s267_142 : List E := [(.iadd, 0, []), (.iastore, 0, []), (.nop, 0, [144])]
def s267_144 : List E := [(.aload_n 0, 0, [0]), (.getfield 57, 14, [16, 19, 81, 1]), (.iload_n 1, 0, [1]), (.dup2, 0, []), (.iaload, 0, []), (.iconst 1, 1, []), (.isub, 0, []), (.iastore, 0, []), (.return_, 0, [])]
def cd267 : List (Nat × List E) := [(0, s267_0), (11, s267_11), (38, s267_38), (51, s267_51), (84, s267_84), (88, s267_88), (91, s267_91), (141, s267_141), (142, s267_142), (144, s267_144)]
theorem l267_0 : lkc cd267 0 = s267_0 := rfl
theorem l267_11 : lkc cd267 11 = s267_11 := rfl
theorem l267_38 : lkc cd267 38 = s267_38 := rfl
theorem l267_51 : lkc cd267 51 = s267_51 := rfl
theorem l267_84 : lkc cd267 84 = s267_84 := rfl
theorem l267_88 : lkc cd267 88 = s267_88 := rfl
theorem l267_91 : lkc cd267 91 = s267_91 := rfl
theorem l267_141 : lkc cd267 141 = s267_141 := rfl
theorem l267_142 : lkc cd267 142 = s267_142 := rfl
theorem l267_144 : lkc cd267 144 = s267_144 := rfl
theorem k267 : chkM 267 16 true cd267 = true := by decide +kernel
/- FontHouseModel.insertGroup(I)I -/
def s268_0 : List E := [(.iload_n 0, 0, [0]), (.iconst 4, 4, []), (.if_icmp .eq 14, 0, [16]), (.iload_n 0, 0, [0]), (.iconst 5, 5, []), (.if_icmp .eq 9, 0, [16]), (.iload_n 0, 0, [0]), (.bipush 8, 8, []), (.if_icmp .ne 7, 0, [20]), (.nop, 0, [16])]
def s268_16 : List E := [(.iconst 1, 1, []), (.goto 26, 0, [43])]
def s268_20 : List E := [(.iload_n 0, 0, [0]), (.bipush 7, 7, []), (.if_icmp .eq 15, 0, [38]), (.iload_n 0, 0, [0]), (.bipush 9, 9, []), (.if_icmp .eq 9, 0, [38]), (.iload_n 0, 0, [0]), (.bipush 10, 10, []), (.if_icmp .ne 7, 0, [42]), (.nop, 0, [38])]
def s268_38 : List E := [(.iconst 2, 2, []), (.goto 4, 0, [43])]
def s268_42 : List E := [(.iconst 0, 0, []), (.nop, 0, [43])]
def s268_43 : List E := [(.ireturn, 0, [])]
def cd268 : List (Nat × List E) := [(0, s268_0), (16, s268_16), (20, s268_20), (38, s268_38), (42, s268_42), (43, s268_43)]
theorem l268_0 : lkc cd268 0 = s268_0 := rfl
theorem l268_16 : lkc cd268 16 = s268_16 := rfl
theorem l268_20 : lkc cd268 20 = s268_20 := rfl
theorem l268_38 : lkc cd268 38 = s268_38 := rfl
theorem l268_42 : lkc cd268 42 = s268_42 := rfl
theorem l268_43 : lkc cd268 43 = s268_43 := rfl
theorem k268 : chkM 268 16 true cd268 = true := by decide +kernel
/- FontHouseModel.copyGroup(I)I -/
def s269_0 : List E := [(.iload_n 0, 0, [0]), (.iconst 1, 1, []), (.if_icmp .eq 19, 0, [21]), (.iload_n 0, 0, [0]), (.iconst 3, 3, []), (.if_icmp .eq 14, 0, [21]), (.iload_n 0, 0, [0]), (.iconst 5, 5, []), (.if_icmp .eq 9, 0, [21]), (.iload_n 0, 0, [0]), (.bipush 9, 9, []), (.if_icmp .ne 7, 0, [25]), (.nop, 0, [21])]
def s269_21 : List E := [(.iconst 1, 1, []), (.goto 26, 0, [48])]
def s269_25 : List E := [(.iload_n 0, 0, [0]), (.bipush 6, 6, []), (.if_icmp .eq 15, 0, [43]), (.iload_n 0, 0, [0]), (.bipush 8, 8, []), (.if_icmp .eq 9, 0, [43]), (.iload_n 0, 0, [0]), (.bipush 10, 10, []), (.if_icmp .ne 7, 0, [47]), (.nop, 0, [43])]
def s269_43 : List E := [(.iconst 2, 2, []), (.goto 4, 0, [48])]
def s269_47 : List E := [(.iconst 0, 0, []), (.nop, 0, [48])]
def s269_48 : List E := [(.ireturn, 0, [])]
def cd269 : List (Nat × List E) := [(0, s269_0), (21, s269_21), (25, s269_25), (43, s269_43), (47, s269_47), (48, s269_48)]
theorem l269_0 : lkc cd269 0 = s269_0 := rfl
theorem l269_21 : lkc cd269 21 = s269_21 := rfl
theorem l269_25 : lkc cd269 25 = s269_25 := rfl
theorem l269_43 : lkc cd269 43 = s269_43 := rfl
theorem l269_47 : lkc cd269 47 = s269_47 := rfl
theorem l269_48 : lkc cd269 48 = s269_48 := rfl
theorem k269 : chkM 269 16 true cd269 = true := by decide +kernel
/- FontHouseModel.insertBase(I)I -/
def s270_0 : List E := [(.iload_n 0, 0, [0]), (.bipush 6, 6, []), (.if_icmp .ge 5, 0, [8]), (.iload_n 0, 0, [0]), (.ireturn, 0, [])]
def s270_8 : List E := [(.iload_n 0, 0, [0]), (.bipush 16, 16, []), (.if_icmp .ge 27, 0, [38]), (.iload_n 0, 0, [0]), (.bipush 6, 6, []), (.isub, 0, []), (.iconst 2, 2, []), (.idiv, 0, []), (.istore_n 1, 0, [1]), (.iconst 2, 2, []), (.iconst 4, 4, []), (.iload_n 1, 0, [1]), (.ishl, 0, []), (.iadd, 0, []), (.iload_n 0, 0, [0]), (.bipush 6, 6, []), (.isub, 0, []), (.iconst 2, 2, []), (.irem, 0, []), (.iconst 2, 2, []), (.iload_n 1, 0, [1]), (.ishl, 0, []), (.imul, 0, []), (.iadd, 0, []), (.ireturn, 0, [])]
def s270_38 : List E := [(.iload_n 0, 0, [0]), (.tableswitch 69 16 22 #[41, 45, 49, 53, 57, 61, 65], 0, [108, 80, 84, 88, 92, 96, 100, 104])]
def s270_80 : List E := [(.sipush 130, 130, []), (.ireturn, 0, [])]
def s270_84 : List E := [(.sipush 194, 194, []), (.ireturn, 0, [])]
def s270_88 : List E := [(.sipush 322, 322, []), (.ireturn, 0, [])]
def s270_92 : List E := [(.sipush 578, 578, []), (.ireturn, 0, [])]
def s270_96 : List E := [(.sipush 1090, 1090, []), (.ireturn, 0, [])]
def s270_100 : List E := [(.sipush 2114, 2114, []), (.ireturn, 0, [])]
def s270_104 : List E := [(.sipush 6210, 6210, []), (.ireturn, 0, [])]
def s270_108 : List E := [(.sipush 22594, 22594, []), (.ireturn, 0, [])]
def cd270 : List (Nat × List E) := [(0, s270_0), (8, s270_8), (38, s270_38), (80, s270_80), (84, s270_84), (88, s270_88), (92, s270_92), (96, s270_96), (100, s270_100), (104, s270_104), (108, s270_108)]
theorem l270_0 : lkc cd270 0 = s270_0 := rfl
theorem l270_8 : lkc cd270 8 = s270_8 := rfl
theorem l270_38 : lkc cd270 38 = s270_38 := rfl
theorem l270_80 : lkc cd270 80 = s270_80 := rfl
theorem l270_84 : lkc cd270 84 = s270_84 := rfl
theorem l270_88 : lkc cd270 88 = s270_88 := rfl
theorem l270_92 : lkc cd270 92 = s270_92 := rfl
theorem l270_96 : lkc cd270 96 = s270_96 := rfl
theorem l270_100 : lkc cd270 100 = s270_100 := rfl
theorem l270_104 : lkc cd270 104 = s270_104 := rfl
theorem l270_108 : lkc cd270 108 = s270_108 := rfl
theorem k270 : chkM 270 16 true cd270 = true := by decide +kernel
/- FontHouseModel.insertBits(I)I -/
def s271_0 : List E := [(.iload_n 0, 0, [0]), (.bipush 6, 6, []), (.if_icmp .ge 7, 0, [10]), (.iconst 0, 0, []), (.goto 54, 0, [61])]
def s271_10 : List E := [(.iload_n 0, 0, [0]), (.bipush 16, 16, []), (.if_icmp .ge 11, 0, [24]), (.iload_n 0, 0, [0]), (.iconst 4, 4, []), (.isub, 0, []), (.iconst 2, 2, []), (.idiv, 0, []), (.goto 40, 0, [61])]
def s271_24 : List E := [(.iload_n 0, 0, [0]), (.bipush 21, 21, []), (.if_icmp .ge 10, 0, [37]), (.iload_n 0, 0, [0]), (.bipush 10, 10, []), (.isub, 0, []), (.goto 27, 0, [61])]
def s271_37 : List E := [(.iload_n 0, 0, [0]), (.bipush 21, 21, []), (.if_icmp .ne 8, 0, [48]), (.bipush 12, 12, []), (.goto 16, 0, [61])]
def s271_48 : List E := [(.iload_n 0, 0, [0]), (.bipush 22, 22, []), (.if_icmp .ne 8, 0, [59]), (.bipush 14, 14, []), (.goto 5, 0, [61])]
def s271_59 : List E := [(.bipush 24, 24, []), (.nop, 0, [61])]
def s271_61 : List E := [(.ireturn, 0, [])]
def cd271 : List (Nat × List E) := [(0, s271_0), (10, s271_10), (24, s271_24), (37, s271_37), (48, s271_48), (59, s271_59), (61, s271_61)]
theorem l271_0 : lkc cd271 0 = s271_0 := rfl
theorem l271_10 : lkc cd271 10 = s271_10 := rfl
theorem l271_24 : lkc cd271 24 = s271_24 := rfl
theorem l271_37 : lkc cd271 37 = s271_37 := rfl
theorem l271_48 : lkc cd271 48 = s271_48 := rfl
theorem l271_59 : lkc cd271 59 = s271_59 := rfl
theorem l271_61 : lkc cd271 61 = s271_61 := rfl
theorem k271 : chkM 271 16 true cd271 = true := by decide +kernel
/- FontHouseModel.copyBase(I)I -/
def s272_0 : List E := [(.iload_n 0, 0, [0]), (.bipush 8, 8, []), (.if_icmp .ge 7, 0, [10]), (.iconst 2, 2, []), (.iload_n 0, 0, [0]), (.iadd, 0, []), (.ireturn, 0, [])]
def s272_10 : List E := [(.iload_n 0, 0, [0]), (.bipush 18, 18, []), (.if_icmp .ge 28, 0, [41]), (.iload_n 0, 0, [0]), (.bipush 8, 8, []), (.isub, 0, []), (.iconst 2, 2, []), (.idiv, 0, []), (.istore_n 1, 0, [1]), (.bipush 6, 6, []), (.iconst 4, 4, []), (.iload_n 1, 0, [1]), (.ishl, 0, []), (.iadd, 0, []), (.iload_n 0, 0, [0]), (.bipush 8, 8, []), (.isub, 0, []), (.iconst 2, 2, []), (.irem, 0, []), (.iconst 2, 2, []), (.iload_n 1, 0, [1]), (.ishl, 0, []), (.imul, 0, []), (.iadd, 0, []), (.ireturn, 0, [])]
def s272_41 : List E := [(.iload_n 0, 0, [0]), (.tableswitch 54 18 22 #[34, 38, 42, 46, 50], 0, [96, 76, 80, 84, 88, 92])]
def s272_76 : List E := [(.sipush 134, 134, []), (.ireturn, 0, [])]
def s272_80 : List E := [(.sipush 198, 198, []), (.ireturn, 0, [])]
def s272_84 : List E := [(.sipush 326, 326, []), (.ireturn, 0, [])]
def s272_88 : List E := [(.sipush 582, 582, []), (.ireturn, 0, [])]
def s272_92 : List E := [(.sipush 1094, 1094, []), (.ireturn, 0, [])]
def s272_96 : List E := [(.sipush 2118, 2118, []), (.ireturn, 0, [])]
def cd272 : List (Nat × List E) := [(0, s272_0), (10, s272_10), (41, s272_41), (76, s272_76), (80, s272_80), (84, s272_84), (88, s272_88), (92, s272_92), (96, s272_96)]
theorem l272_0 : lkc cd272 0 = s272_0 := rfl
theorem l272_10 : lkc cd272 10 = s272_10 := rfl
theorem l272_41 : lkc cd272 41 = s272_41 := rfl
theorem l272_76 : lkc cd272 76 = s272_76 := rfl
theorem l272_80 : lkc cd272 80 = s272_80 := rfl
theorem l272_84 : lkc cd272 84 = s272_84 := rfl
theorem l272_88 : lkc cd272 88 = s272_88 := rfl
theorem l272_92 : lkc cd272 92 = s272_92 := rfl
theorem l272_96 : lkc cd272 96 = s272_96 := rfl
theorem k272 : chkM 272 16 true cd272 = true := by decide +kernel
/- FontHouseModel.copyBits(I)I -/
def s273_0 : List E := [(.iload_n 0, 0, [0]), (.bipush 8, 8, []), (.if_icmp .ge 7, 0, [10]), (.iconst 0, 0, []), (.goto 33, 0, [40])]
def s273_10 : List E := [(.iload_n 0, 0, [0]), (.bipush 18, 18, []), (.if_icmp .ge 12, 0, [25]), (.iload_n 0, 0, [0]), (.bipush 6, 6, []), (.isub, 0, []), (.iconst 2, 2, []), (.idiv, 0, []), (.goto 18, 0, [40])]
def s273_25 : List E := [(.iload_n 0, 0, [0]), (.bipush 23, 23, []), (.if_icmp .ne 8, 0, [36]), (.bipush 24, 24, []), (.goto 7, 0, [40])]
def s273_36 : List E := [(.iload_n 0, 0, [0]), (.bipush 12, 12, []), (.isub, 0, []), (.nop, 0, [40])]
def s273_40 : List E := [(.ireturn, 0, [])]
def cd273 : List (Nat × List E) := [(0, s273_0), (10, s273_10), (25, s273_25), (36, s273_36), (40, s273_40)]
theorem l273_0 : lkc cd273 0 = s273_0 := rfl
theorem l273_10 : lkc cd273 10 = s273_10 := rfl
theorem l273_25 : lkc cd273 25 = s273_25 := rfl
theorem l273_36 : lkc cd273 36 = s273_36 := rfl
theorem l273_40 : lkc cd273 40 = s273_40 := rfl
theorem k273 : chkM 273 16 true cd273 = true := by decide +kernel
/- FontHouseModel.oneLetter()V -/
def s274_0 : List E := [(.aload_n 0, 0, [0]), (.iconst 0, 0, []), (.invokevirtual 452, 0, [267, 16, 33, 8, 0, 100, 0]), (.aload_n 0, 0, [0]), (.getfield 60, 15, [16, 20, 81, 1]), (.aload_n 0, 0, [0]), (.getfield 51, 12, [16, 17, 81, 1]), (.iconst 0, 0, []), (.iaload, 0, []), (.iaload, 0, []), (.aload_n 0, 0, [0]), (.iconst 1, 1, []), (.invokevirtual 455, 0, [275, 16, 33, 103, 0, 0, 0]), (.aload_n 0, 0, [0]), (.iconst 2, 2, []), (.invokevirtual 455, 0, [275, 16, 33, 103, 0, 0, 0]), (.invokestatic 458, 0, [276, 58, 0, 0, 0, 0, 0]), (.istore_n 1, 0, [1]), (.aload_n 0, 0, [0]), (.aload_n 0, 0, [0]), (.getfield 63, 16, [16, 21, 81, 1]), (.bipush 64, 64, []), (.aload_n 0, 0, [0]), (.getfield 51, 12, [16, 17, 81, 1]), (.iconst 0, 0, []), (.iaload, 0, []), (.imul, 0, []), (.iload_n 1, 0, [1]), (.iadd, 0, []), (.iaload, 0, []), (.invokevirtual 396, 0, [261, 16, 33, 53, 0, 0, 0]), (.istore_n 2, 0, [2]), (.aload_n 0, 0, [0]), (.getfield 343, 0, [16, 2, 0]), (.ifCond .ne 18, 0, [73]), (.aload_n 0, 0, [0]), (.iload_n 2, 0, [2]), (.invokevirtual 432, 0, [249, 16, 33, 103, 0, 100, 0]), (.aload_n 0, 0, [0]), (.getfield 28, 5, [16, 9, 81, 1]), (.iconst 2, 2, []), (.dup2, 0, []), (.iaload, 0, []), (.iconst 1, 1, []), (.iadd, 0, []), (.iastore, 0, []), (.nop, 0, [73])]
def s274_73 : List E := [(.return_, 0, [])]
def cd274 : List (Nat × List E) := [(0, s274_0), (73, s274_73)]
theorem l274_0 : lkc cd274 0 = s274_0 := rfl
theorem l274_73 : lkc cd274 73 = s274_73 := rfl
theorem k274 : chkM 274 16 true cd274 = true := by decide +kernel
/- FontHouseModel.back(I)I -/
def s275_0 : List E := [(.aload_n 0, 0, [0]), (.getfield 424, 0, [16, 8, 0]), (.iload_n 1, 0, [1]), (.if_icmp .ge 7, 0, [12]), (.iconst 0, 0, []), (.goto 18, 0, [27])]
def s275_12 : List E := [(.aload_n 0, 0, [0]), (.getfield 25, 4, [16, 7, 83, 1]), (.aload_n 0, 0, [0]), (.getfield 424, 0, [16, 8, 0]), (.iload_n 1, 0, [1]), (.isub, 0, []), (.baload, 0, [41]), (.sipush 255, 255, []), (.iand, 0, []), (.nop, 0, [27])]
def s275_27 : List E := [(.ireturn, 0, [])]
def cd275 : List (Nat × List E) := [(0, s275_0), (12, s275_12), (27, s275_27)]
theorem l275_0 : lkc cd275 0 = s275_0 := rfl
theorem l275_12 : lkc cd275 12 = s275_12 := rfl
theorem l275_27 : lkc cd275 27 = s275_27 := rfl
theorem k275 : chkM 275 16 true cd275 = true := by decide +kernel
/- FontHouseModel.context(III)I -/
def s276_0 : List E := [(.iload_n 0, 0, [0]), (.ifCond .ne 10, 0, [11]), (.iload_n 1, 0, [1]), (.bipush 63, 63, []), (.iand, 0, []), (.goto 43, 0, [51])]
def s276_11 : List E := [(.iload_n 0, 0, [0]), (.iconst 1, 1, []), (.if_icmp .ne 9, 0, [22]), (.iload_n 1, 0, [1]), (.iconst 2, 2, []), (.ishr, 0, []), (.goto 32, 0, [51])]
def s276_22 : List E := [(.iload_n 0, 0, [0]), (.iconst 2, 2, []), (.if_icmp .ne 15, 0, [39]), (.iload_n 1, 0, [1]), (.invokestatic 415, 0, [277, 8, 0, 0, 0]), (.iload_n 2, 0, [2]), (.invokestatic 418, 0, [279, 32, 0, 0, 0]), (.iadd, 0, []), (.goto 15, 0, [51])]
def s276_39 : List E := [(.bipush 8, 8, []), (.iload_n 1, 0, [1]), (.invokestatic 421, 0, [280, 32, 0, 0, 0]), (.imul, 0, []), (.iload_n 2, 0, [2]), (.invokestatic 421, 0, [280, 32, 0, 0, 0]), (.iadd, 0, []), (.nop, 0, [51])]
def s276_51 : List E := [(.ireturn, 0, [])]
def cd276 : List (Nat × List E) := [(0, s276_0), (11, s276_11), (22, s276_22), (39, s276_39), (51, s276_51)]
theorem l276_0 : lkc cd276 0 = s276_0 := rfl
theorem l276_11 : lkc cd276 11 = s276_11 := rfl
theorem l276_22 : lkc cd276 22 = s276_22 := rfl
theorem l276_39 : lkc cd276 39 = s276_39 := rfl
theorem l276_51 : lkc cd276 51 = s276_51 := rfl
theorem k276 : chkM 276 16 true cd276 = true := by decide +kernel
/- FontHouseModel.classA(I)I -/
def s277_0 : List E := [(.iload_n 0, 0, [0]), (.sipush 128, 128, []), (.if_icmp .ge 292, 0, [296]), (.iload_n 0, 0, [0]), (.bipush 9, 9, []), (.bipush 10, 10, []), (.bipush 13, 13, []), (.bipush 13, 13, []), (.invokestatic 411, 0, [278, 8, 0, 3, 0, 0, 0, 0, 0]), (.ifCond .eq 5, 0, [24]), (.iconst 4, 4, []), (.ireturn, 0, [])]
def s277_24 : List E := [(.iload_n 0, 0, [0]), (.bipush 32, 32, []), (.if_icmp .ne 6, 0, [33]), (.bipush 8, 8, []), (.ireturn, 0, [])]
def s277_33 : List E := [(.iload_n 0, 0, [0]), (.bipush 34, 34, []), (.bipush 39, 39, []), (.bipush 39, 39, []), (.bipush 39, 39, []), (.invokestatic 411, 0, [278, 8, 0, 3, 0, 0, 0, 0, 0]), (.ifCond .eq 6, 0, [51]), (.bipush 16, 16, []), (.ireturn, 0, [])]
def s277_51 : List E := [(.iload_n 0, 0, [0]), (.bipush 37, 37, []), (.if_icmp .ne 6, 0, [60]), (.bipush 20, 20, []), (.ireturn, 0, [])]
def s277_60 : List E := [(.iload_n 0, 0, [0]), (.bipush 40, 40, []), (.bipush 60, 60, []), (.bipush 91, 91, []), (.bipush 123, 123, []), (.invokestatic 411, 0, [278, 8, 0, 3, 0, 0, 0, 0, 0]), (.ifCond .eq 6, 0, [78]), (.bipush 24, 24, []), (.ireturn, 0, [])]
def s277_78 : List E := [(.iload_n 0, 0, [0]), (.bipush 41, 41, []), (.bipush 62, 62, []), (.bipush 93, 93, []), (.bipush 125, 125, []), (.invokestatic 411, 0, [278, 8, 0, 3, 0, 0, 0, 0, 0]), (.ifCond .eq 6, 0, [96]), (.bipush 28, 28, []), (.ireturn, 0, [])]
def s277_96 : List E := [(.iload_n 0, 0, [0]), (.bipush 44, 44, []), (.bipush 58, 58, []), (.bipush 59, 59, []), (.bipush 59, 59, []), (.invokestatic 411, 0, [278, 8, 0, 3, 0, 0, 0, 0, 0]), (.ifCond .eq 6, 0, [114]), (.bipush 32, 32, []), (.ireturn, 0, [])]
def s277_114 : List E := [(.iload_n 0, 0, [0]), (.bipush 46, 46, []), (.if_icmp .ne 6, 0, [123]), (.bipush 36, 36, []), (.ireturn, 0, [])]
def s277_123 : List E := [(.iload_n 0, 0, [0]), (.bipush 61, 61, []), (.if_icmp .ne 6, 0, [132]), (.bipush 40, 40, []), (.ireturn, 0, [])]
def s277_132 : List E := [(.iload_n 0, 0, [0]), (.bipush 48, 48, []), (.if_icmp .lt 12, 0, [147]), (.iload_n 0, 0, [0]), (.bipush 57, 57, []), (.if_icmp .gt 6, 0, [147]), (.bipush 44, 44, []), (.ireturn, 0, [])]
def s277_147 : List E := [(.iload_n 0, 0, [0]), (.bipush 65, 65, []), (.if_icmp .lt 38, 0, [188]), (.iload_n 0, 0, [0]), (.bipush 90, 90, []), (.if_icmp .gt 32, 0, [188]), (.iload_n 0, 0, [0]), (.bipush 65, 65, []), (.bipush 69, 69, []), (.bipush 73, 73, []), (.bipush 79, 79, []), (.invokestatic 411, 0, [278, 8, 0, 3, 0, 0, 0, 0, 0]), (.ifCond .ne 9, 0, [180]), (.iload_n 0, 0, [0]), (.bipush 85, 85, []), (.if_icmp .ne 8, 0, [185]), (.nop, 0, [180])]
def s277_180 : List E := [(.bipush 48, 48, []), (.goto 5, 0, [187])]
def s277_185 : List E := [(.bipush 52, 52, []), (.nop, 0, [187])]
def s277_187 : List E := [(.ireturn, 0, [])]
def s277_188 : List E := [(.iload_n 0, 0, [0]), (.bipush 97, 97, []), (.if_icmp .lt 38, 0, [229]), (.iload_n 0, 0, [0]), (.bipush 122, 122, []), (.if_icmp .gt 32, 0, [229]), (.iload_n 0, 0, [0]), (.bipush 97, 97, []), (.bipush 101, 101, []), (.bipush 105, 105, []), (.bipush 111, 111, []), (.invokestatic 411, 0, [278, 8, 0, 3, 0, 0, 0, 0, 0]), (.ifCond .ne 9, 0, [221]), (.iload_n 0, 0, [0]), (.bipush 117, 117, []), (.if_icmp .ne 8, 0, [226]), (.nop, 0, [221])]
def s277_221 : List E := [(.bipush 56, 56, []), (.goto 5, 0, [228])]
def s277_226 : List E := [(.bipush 60, 60, []), (.nop, 0, [228])]
def s277_228 : List E := [(.ireturn, 0, [])]
def s277_229 : List E := [(.iload_n 0, 0, [0]), (.bipush 33, 33, []), (.bipush 35, 35, []), (.bipush 36, 36, []), (.bipush 38, 38, []), (.invokestatic 411, 0, [278, 8, 0, 3, 0, 0, 0, 0, 0]), (.ifCond .ne 48, 0, [289]), (.iload_n 0, 0, [0]), (.bipush 42, 42, []), (.bipush 43, 43, []), (.bipush 45, 45, []), (.bipush 47, 47, []), (.invokestatic 411, 0, [278, 8, 0, 3, 0, 0, 0, 0, 0]), (.ifCond .ne 33, 0, [289]), (.iload_n 0, 0, [0]), (.bipush 63, 63, []), (.bipush 64, 64, []), (.bipush 92, 92, []), (.bipush 94, 94, []), (.invokestatic 411, 0, [278, 8, 0, 3, 0, 0, 0, 0, 0]), (.ifCond .ne 18, 0, [289]), (.iload_n 0, 0, [0]), (.bipush 95, 95, []), (.bipush 96, 96, []), (.bipush 124, 124, []), (.bipush 126, 126, []), (.invokestatic 411, 0, [278, 8, 0, 3, 0, 0, 0, 0, 0]), (.ifCond .eq 8, 0, [294]), (.nop, 0, [289])]
def s277_289 : List E := [(.bipush 12, 12, []), (.goto 4, 0, [295])]
def s277_294 : List E := [(.iconst 0, 0, []), (.nop, 0, [295])]
def s277_295 : List E := [(.ireturn, 0, [])]
def s277_296 : List E := [(.iload_n 0, 0, [0]), (.sipush 192, 192, []), (.if_icmp .ge 9, 0, [309]), (.iload_n 0, 0, [0]), (.iconst 1, 1, []), (.iand, 0, []), (.goto 8, 0, [314])]
def s277_309 : List E := [(.iconst 2, 2, []), (.iload_n 0, 0, [0]), (.iconst 1, 1, []), (.iand, 0, []), (.iadd, 0, []), (.nop, 0, [314])]
def s277_314 : List E := [(.ireturn, 0, [])]
def cd277 : List (Nat × List E) := [(0, s277_0), (24, s277_24), (33, s277_33), (51, s277_51), (60, s277_60), (78, s277_78), (96, s277_96), (114, s277_114), (123, s277_123), (132, s277_132), (147, s277_147), (180, s277_180), (185, s277_185), (187, s277_187), (188, s277_188), (221, s277_221), (226, s277_226), (228, s277_228), (229, s277_229), (289, s277_289), (294, s277_294), (295, s277_295), (296, s277_296), (309, s277_309), (314, s277_314)]
theorem l277_0 : lkc cd277 0 = s277_0 := rfl
theorem l277_24 : lkc cd277 24 = s277_24 := rfl
theorem l277_33 : lkc cd277 33 = s277_33 := rfl
theorem l277_51 : lkc cd277 51 = s277_51 := rfl
theorem l277_60 : lkc cd277 60 = s277_60 := rfl
theorem l277_78 : lkc cd277 78 = s277_78 := rfl
theorem l277_96 : lkc cd277 96 = s277_96 := rfl
theorem l277_114 : lkc cd277 114 = s277_114 := rfl
theorem l277_123 : lkc cd277 123 = s277_123 := rfl
theorem l277_132 : lkc cd277 132 = s277_132 := rfl
theorem l277_147 : lkc cd277 147 = s277_147 := rfl
theorem l277_180 : lkc cd277 180 = s277_180 := rfl
theorem l277_185 : lkc cd277 185 = s277_185 := rfl
theorem l277_187 : lkc cd277 187 = s277_187 := rfl
theorem l277_188 : lkc cd277 188 = s277_188 := rfl
theorem l277_221 : lkc cd277 221 = s277_221 := rfl
theorem l277_226 : lkc cd277 226 = s277_226 := rfl
theorem l277_228 : lkc cd277 228 = s277_228 := rfl
theorem l277_229 : lkc cd277 229 = s277_229 := rfl
theorem l277_289 : lkc cd277 289 = s277_289 := rfl
theorem l277_294 : lkc cd277 294 = s277_294 := rfl
theorem l277_295 : lkc cd277 295 = s277_295 := rfl
theorem l277_296 : lkc cd277 296 = s277_296 := rfl
theorem l277_309 : lkc cd277 309 = s277_309 := rfl
theorem l277_314 : lkc cd277 314 = s277_314 := rfl
theorem k277 : chkM 277 16 true cd277 = true := by decide +kernel
/- FontHouseModel.among(IIIII)Z -/
def s278_0 : List E := [(.iload_n 0, 0, [0]), (.iload_n 1, 0, [1]), (.if_icmp .eq 19, 0, [21]), (.iload_n 0, 0, [0]), (.iload_n 2, 0, [2]), (.if_icmp .eq 14, 0, [21]), (.iload_n 0, 0, [0]), (.iload_n 3, 0, [3]), (.if_icmp .eq 9, 0, [21]), (.iload_n 0, 0, [0]), (.iload 4, 0, [4]), (.if_icmp .ne 7, 0, [25]), (.nop, 0, [21])]
def s278_21 : List E := [(.iconst 1, 1, []), (.goto 4, 0, [26])]
def s278_25 : List E := [(.iconst 0, 0, []), (.nop, 0, [26])]
def s278_26 : List E := [(.ireturn, 0, [1])]
def cd278 : List (Nat × List E) := [(0, s278_0), (21, s278_21), (25, s278_25), (26, s278_26)]
theorem l278_0 : lkc cd278 0 = s278_0 := rfl
theorem l278_21 : lkc cd278 21 = s278_21 := rfl
theorem l278_25 : lkc cd278 25 = s278_25 := rfl
theorem l278_26 : lkc cd278 26 = s278_26 := rfl
theorem k278 : chkM 278 16 true cd278 = true := by decide +kernel
/- FontHouseModel.classB(I)I -/
def s279_0 : List E := [(.iload_n 0, 0, [0]), (.bipush 48, 48, []), (.if_icmp .lt 9, 0, [12]), (.iload_n 0, 0, [0]), (.bipush 57, 57, []), (.if_icmp .le 22, 0, [31]), (.nop, 0, [12])]
def s279_12 : List E := [(.iload_n 0, 0, [0]), (.bipush 65, 65, []), (.if_icmp .lt 9, 0, [24]), (.iload_n 0, 0, [0]), (.bipush 90, 90, []), (.if_icmp .le 10, 0, [31]), (.nop, 0, [24])]
def s279_24 : List E := [(.iload_n 0, 0, [0]), (.sipush 192, 192, []), (.if_icmp .lt 5, 0, [33]), (.nop, 0, [31])]
def s279_31 : List E := [(.iconst 2, 2, []), (.ireturn, 0, [])]
def s279_33 : List E := [(.iload_n 0, 0, [0]), (.bipush 97, 97, []), (.if_icmp .lt 11, 0, [47]), (.iload_n 0, 0, [0]), (.bipush 122, 122, []), (.if_icmp .gt 5, 0, [47]), (.iconst 3, 3, []), (.ireturn, 0, [])]
def s279_47 : List E := [(.iload_n 0, 0, [0]), (.bipush 33, 33, []), (.if_icmp .lt 9, 0, [59]), (.iload_n 0, 0, [0]), (.bipush 47, 47, []), (.if_icmp .le 39, 0, [95]), (.nop, 0, [59])]
def s279_59 : List E := [(.iload_n 0, 0, [0]), (.bipush 58, 58, []), (.if_icmp .lt 9, 0, [71]), (.iload_n 0, 0, [0]), (.bipush 64, 64, []), (.if_icmp .le 27, 0, [95]), (.nop, 0, [71])]
def s279_71 : List E := [(.iload_n 0, 0, [0]), (.bipush 91, 91, []), (.if_icmp .lt 9, 0, [83]), (.iload_n 0, 0, [0]), (.bipush 96, 96, []), (.if_icmp .le 15, 0, [95]), (.nop, 0, [83])]
def s279_83 : List E := [(.iload_n 0, 0, [0]), (.bipush 123, 123, []), (.if_icmp .lt 13, 0, [99]), (.iload_n 0, 0, [0]), (.bipush 126, 126, []), (.if_icmp .gt 7, 0, [99]), (.nop, 0, [95])]
def s279_95 : List E := [(.iconst 1, 1, []), (.goto 4, 0, [100])]
def s279_99 : List E := [(.iconst 0, 0, []), (.nop, 0, [100])]
def s279_100 : List E := [(.ireturn, 0, [])]
def cd279 : List (Nat × List E) := [(0, s279_0), (12, s279_12), (24, s279_24), (31, s279_31), (33, s279_33), (47, s279_47), (59, s279_59), (71, s279_71), (83, s279_83), (95, s279_95), (99, s279_99), (100, s279_100)]
theorem l279_0 : lkc cd279 0 = s279_0 := rfl
theorem l279_12 : lkc cd279 12 = s279_12 := rfl
theorem l279_24 : lkc cd279 24 = s279_24 := rfl
theorem l279_31 : lkc cd279 31 = s279_31 := rfl
theorem l279_33 : lkc cd279 33 = s279_33 := rfl
theorem l279_47 : lkc cd279 47 = s279_47 := rfl
theorem l279_59 : lkc cd279 59 = s279_59 := rfl
theorem l279_71 : lkc cd279 71 = s279_71 := rfl
theorem l279_83 : lkc cd279 83 = s279_83 := rfl
theorem l279_95 : lkc cd279 95 = s279_95 := rfl
theorem l279_99 : lkc cd279 99 = s279_99 := rfl
theorem l279_100 : lkc cd279 100 = s279_100 := rfl
theorem k279 : chkM 279 16 true cd279 = true := by decide +kernel
/- FontHouseModel.classC(I)I -/
def s280_0 : List E := [(.iload_n 0, 0, [0]), (.ifCond .ne 7, 0, [8]), (.iconst 0, 0, []), (.goto 70, 0, [75])]
def s280_8 : List E := [(.iload_n 0, 0, [0]), (.bipush 16, 16, []), (.if_icmp .ge 7, 0, [18]), (.iconst 1, 1, []), (.goto 60, 0, [75])]
def s280_18 : List E := [(.iload_n 0, 0, [0]), (.bipush 64, 64, []), (.if_icmp .ge 7, 0, [28]), (.iconst 2, 2, []), (.goto 50, 0, [75])]
def s280_28 : List E := [(.iload_n 0, 0, [0]), (.sipush 128, 128, []), (.if_icmp .ge 7, 0, [39]), (.iconst 3, 3, []), (.goto 39, 0, [75])]
def s280_39 : List E := [(.iload_n 0, 0, [0]), (.sipush 192, 192, []), (.if_icmp .ge 7, 0, [50]), (.iconst 4, 4, []), (.goto 28, 0, [75])]
def s280_50 : List E := [(.iload_n 0, 0, [0]), (.sipush 240, 240, []), (.if_icmp .ge 7, 0, [61]), (.iconst 5, 5, []), (.goto 17, 0, [75])]
def s280_61 : List E := [(.iload_n 0, 0, [0]), (.sipush 255, 255, []), (.if_icmp .ge 8, 0, [73]), (.bipush 6, 6, []), (.goto 5, 0, [75])]
def s280_73 : List E := [(.bipush 7, 7, []), (.nop, 0, [75])]
def s280_75 : List E := [(.ireturn, 0, [])]
def cd280 : List (Nat × List E) := [(0, s280_0), (8, s280_8), (18, s280_18), (28, s280_28), (39, s280_39), (50, s280_50), (61, s280_61), (73, s280_73), (75, s280_75)]
theorem l280_0 : lkc cd280 0 = s280_0 := rfl
theorem l280_8 : lkc cd280 8 = s280_8 := rfl
theorem l280_18 : lkc cd280 18 = s280_18 := rfl
theorem l280_28 : lkc cd280 28 = s280_28 := rfl
theorem l280_39 : lkc cd280 39 = s280_39 := rfl
theorem l280_50 : lkc cd280 50 = s280_50 := rfl
theorem l280_61 : lkc cd280 61 = s280_61 := rfl
theorem l280_73 : lkc cd280 73 = s280_73 := rfl
theorem l280_75 : lkc cd280 75 = s280_75 := rfl
theorem k280 : chkM 280 16 true cd280 = true := by decide +kernel
/- FontHouseModel.copied(ZII)V -/
def s281_0 : List E := [(.aload_n 0, 0, [0]), (.getfield 72, 19, [16, 24, 81, 1]), (.iconst 0, 0, []), (.iaload, 0, []), (.istore 4, 0, [4]), (.iload_n 1, 0, [1]), (.ifCond .eq 55, 0, [64]), (.iconst 1, 1, []), (.aload_n 0, 0, [0]), (.getfield 462, 0, [16, 10, 0]), (.ishl, 0, []), (.bipush 16, 16, []), (.isub, 0, []), (.istore 5, 0, [5]), (.aload_n 0, 0, [0]), (.getfield 424, 0, [16, 8, 0]), (.iload 5, 0, [5]), (.if_icmp .ge 10, 0, [39]), (.aload_n 0, 0, [0]), (.getfield 424, 0, [16, 8, 0]), (.goto 5, 0, [41])]
def s281_39 : List E := [(.iload 5, 0, [5]), (.nop, 0, [41])]
def s281_41 : List E := [(.istore 5, 0, [5]), (.iload 4, 0, [4]), (.iload 5, 0, [5]), (.if_icmp .le 14, 0, [61]), (.aload_n 0, 0, [0]), (.bipush 12, 12, []), (.aload_n 0, 0, [0]), (.getfield 351, 0, [16, 6, 0]), (.invokevirtual 357, 0, [243, 16, 33, 129, 0, 3, 0, 0]), (.pop, 0, []), (.nop, 0, [61])]
def s281_61 : List E := [(.goto 10, 0, [71])]
def s281_64 : List E := [(.aload_n 0, 0, [0]), (.iload_n 2, 0, [2]), (.invokevirtual 493, 0, [282, 16, 33, 8, 0, 0, 0]), (.istore 4, 0, [4]), (.nop, 0, [71])]
def s281_71 : List E := [(.aload_n 0, 0, [0]), (.getfield 343, 0, [16, 2, 0]), (.ifCond .ne 24, 0, [99]), (.iload_n 2, 0, [2]), (.iload_n 3, 0, [3]), (.aload_n 0, 0, [0]), (.getfield 424, 0, [16, 8, 0]), (.isub, 0, []), (.if_icmp .le 14, 0, [99]), (.aload_n 0, 0, [0]), (.bipush 11, 11, []), (.aload_n 0, 0, [0]), (.getfield 351, 0, [16, 6, 0]), (.invokevirtual 357, 0, [243, 16, 33, 129, 0, 3, 0, 0]), (.pop, 0, []), (.nop, 0, [99])]
def s281_99 : List E := [(.aload_n 0, 0, [0]), (.getfield 343, 0, [16, 2, 0]), (.ifCond .le 4, 0, [107]), (.return_, 0, [])]
def s281_107 : List E := [(.aload_n 0, 0, [0]), (.getfield 28, 5, [16, 9, 81, 1]), (.iconst 3, 3, []), (.dup2, 0, []), (.iaload, 0, []), (.iconst 1, 1, []), (.iadd, 0, []), (.iastore, 0, []), (.iconst 0, 0, []), (.istore 5, 0, [5]), (.nop, 0, [120])]
def s281_120 : List E := [(.iload 5, 0, [5]), (.iload_n 2, 0, [2]), (.if_icmp .ge 19, 0, [142]), (.aload_n 0, 0, [0]), (.aload_n 0, 0, [0]), (.iload 4, 0, [4]), (.invokevirtual 455, 0, [275, 16, 33, 130, 0, 0, 0]), (.invokevirtual 432, 0, [249, 16, 33, 130, 0, 100, 0]), (.iinc 5 1, 1, [5]), (.goto (-19), 0, [120])]
def s281_142 : List E := [(.iload_n 1, 0, [1]), (.ifCond .ne 16, 0, [159]), (.aload_n 0, 0, [0]), (.getfield 465, 0, [16, 27, 0]), (.ifCond .le 9, 0, [159]), (.aload_n 0, 0, [0]), (.iload 4, 0, [4]), (.invokevirtual 496, 0, [283, 16, 33, 129, 0, 100, 0]), (.nop, 0, [159])]
def s281_159 : List E := [(.return_, 0, [])]
def cd281 : List (Nat × List E) := [(0, s281_0), (39, s281_39), (41, s281_41), (61, s281_61), (64, s281_64), (71, s281_71), (99, s281_99), (107, s281_107), (120, s281_120), (142, s281_142), (159, s281_159)]
theorem l281_0 : lkc cd281 0 = s281_0 := rfl
theorem l281_39 : lkc cd281 39 = s281_39 := rfl
theorem l281_41 : lkc cd281 41 = s281_41 := rfl
theorem l281_61 : lkc cd281 61 = s281_61 := rfl
theorem l281_64 : lkc cd281 64 = s281_64 := rfl
theorem l281_71 : lkc cd281 71 = s281_71 := rfl
theorem l281_99 : lkc cd281 99 = s281_99 := rfl
theorem l281_107 : lkc cd281 107 = s281_107 := rfl
theorem l281_120 : lkc cd281 120 = s281_120 := rfl
theorem l281_142 : lkc cd281 142 = s281_142 := rfl
theorem l281_159 : lkc cd281 159 = s281_159 := rfl
theorem k281 : chkM 281 16 true cd281 = true := by decide +kernel
/- FontHouseModel.distance(I)I -/
def s282_0 : List E := [(.aload_n 0, 0, [0]), (.iconst 2, 2, []), (.invokevirtual 452, 0, [267, 16, 33, 8, 0, 100, 0]), (.aload_n 0, 0, [0]), (.sipush 512, 512, []), (.aload_n 0, 0, [0]), (.getfield 66, 17, [16, 22, 81, 1]), (.iconst 4, 4, []), (.aload_n 0, 0, [0]), (.getfield 51, 12, [16, 17, 81, 1]), (.iconst 2, 2, []), (.iaload, 0, []), (.imul, 0, []), (.iload_n 1, 0, [1]), (.iconst 4, 4, []), (.if_icmp .le 7, 0, [30]), (.iconst 3, 3, []), (.goto 6, 0, [33])]
def s282_30 : List E := [(.iload_n 1, 0, [1]), (.iconst 2, 2, []), (.isub, 0, []), (.nop, 0, [33])]
def s282_33 : List E := [(.iadd, 0, []), (.iaload, 0, []), (.iadd, 0, []), (.invokevirtual 396, 0, [261, 16, 33, 53, 0, 0, 0]), (.istore_n 2, 0, [2]), (.aload_n 0, 0, [0]), (.getfield 343, 0, [16, 2, 0]), (.ifCond .le 5, 0, [49]), (.iconst 0, 0, []), (.ireturn, 0, [])]
def s282_49 : List E := [(.iload_n 2, 0, [2]), (.iconst 4, 4, []), (.if_icmp .ge 13, 0, [64]), (.aload_n 0, 0, [0]), (.getfield 72, 19, [16, 24, 81, 1]), (.iload_n 2, 0, [2]), (.iaload, 0, []), (.istore_n 3, 0, [3]), (.goto 170, 0, [231])]
def s282_64 : List E := [(.iload_n 2, 0, [2]), (.bipush 16, 16, []), (.if_icmp .ge 65, 0, [132]), (.iload_n 2, 0, [2]), (.bipush 10, 10, []), (.if_icmp .ge 9, 0, [82]), (.iload_n 2, 0, [2]), (.iconst 4, 4, []), (.isub, 0, []), (.goto 7, 0, [86])]
def s282_82 : List E := [(.iload_n 2, 0, [2]), (.bipush 10, 10, []), (.isub, 0, []), (.nop, 0, [86])]
def s282_86 : List E := [(.istore 4, 0, [4]), (.iload 4, 0, [4]), (.iconst 2, 2, []), (.idiv, 0, []), (.iconst 1, 1, []), (.iadd, 0, []), (.istore 5, 0, [5]), (.aload_n 0, 0, [0]), (.getfield 72, 19, [16, 24, 81, 1]), (.iload_n 2, 0, [2]), (.bipush 10, 10, []), (.if_icmp .ge 7, 0, [110]), (.iconst 0, 0, []), (.goto 4, 0, [111])]
def s282_110 : List E := [(.iconst 1, 1, []), (.nop, 0, [111])]
def s282_111 : List E := [(.iaload, 0, []), (.iload 4, 0, [4]), (.iconst 2, 2, []), (.irem, 0, []), (.ifCond .ne 9, 0, [125]), (.iload 5, 0, [5]), (.ineg, 0, []), (.goto 5, 0, [127])]
def s282_125 : List E := [(.iload 5, 0, [5]), (.nop, 0, [127])]
def s282_127 : List E := [(.iadd, 0, []), (.istore_n 3, 0, [3]), (.goto 102, 0, [231])]
def s282_132 : List E := [(.iload_n 2, 0, [2]), (.bipush 16, 16, []), (.aload_n 0, 0, [0]), (.getfield 445, 0, [16, 26, 0]), (.iadd, 0, []), (.if_icmp .ge 11, 0, [151]), (.iload_n 2, 0, [2]), (.bipush 15, 15, []), (.isub, 0, []), (.istore_n 3, 0, [3]), (.goto 83, 0, [231])]
def s282_151 : List E := [(.iload_n 2, 0, [2]), (.bipush 16, 16, []), (.isub, 0, []), (.aload_n 0, 0, [0]), (.getfield 445, 0, [16, 26, 0]), (.isub, 0, []), (.istore 4, 0, [4]), (.iconst 1, 1, []), (.iload 4, 0, [4]), (.aload_n 0, 0, [0]), (.getfield 442, 0, [16, 25, 0]), (.iconst 1, 1, []), (.iadd, 0, []), (.ishr, 0, []), (.iadd, 0, []), (.istore 5, 0, [5]), (.iload 4, 0, [4]), (.aload_n 0, 0, [0]), (.getfield 442, 0, [16, 25, 0]), (.ishr, 0, []), (.istore 6, 0, [6]), (.aload_n 0, 0, [0]), (.iload 5, 0, [5]), (.invokevirtual 365, 0, [244, 16, 33, 58, 0, 0, 0]), (.istore 7, 0, [7]), (.iconst 2, 2, []), (.iload 6, 0, [6]), (.iconst 1, 1, []), (.iand, 0, []), (.iadd, 0, []), (.iload 5, 0, [5]), (.ishl, 0, []), (.iconst 4, 4, []), (.isub, 0, []), (.iload 7, 0, [7]), (.iadd, 0, []), (.aload_n 0, 0, [0]), (.getfield 442, 0, [16, 25, 0]), (.ishl, 0, []), (.iload 4, 0, [4]), (.iconst 1, 1, []), (.aload_n 0, 0, [0]), (.getfield 442, 0, [16, 25, 0]), (.ishl, 0, []), (.iconst 1, 1, []), (.isub, 0, []), (.iand, 0, []), (.iadd, 0, []), (.aload_n 0, 0, [0]), (.getfield 445, 0, [16, 26, 0]), (.iadd, 0, []), (.iconst 1, 1, []), (.iadd, 0, []), (.istore_n 3, 0, [3]), (.nop, 0, [231])]
def s282_231 : List E := [(.iconst 1, 1, []), (.aload_n 0, 0, [0]), (.getfield 462, 0, [16, 10, 0]), (.ishl, 0, []), (.bipush 16, 16, []), (.isub, 0, []), (.istore 4, 0, [4]), (.aload_n 0, 0, [0]), (.getfield 424, 0, [16, 8, 0]), (.iload 4, 0, [4]), (.if_icmp .ge 10, 0, [258]), (.aload_n 0, 0, [0]), (.getfield 424, 0, [16, 8, 0]), (.goto 5, 0, [260])]
def s282_258 : List E := [(.iload 4, 0, [4]), (.nop, 0, [260])]
def s282_260 : List E := [(.istore 4, 0, [4]), (.aload_n 0, 0, [0]), (.getfield 343, 0, [16, 2, 0]), (.ifCond .ne 25, 0, [291]), (.iload_n 3, 0, [3]), (.iconst 1, 1, []), (.if_icmp .lt 9, 0, [280]), (.iload_n 3, 0, [3]), (.iload 4, 0, [4]), (.if_icmp .le 14, 0, [291]), (.nop, 0, [280])]
def s282_280 : List E := [(.aload_n 0, 0, [0]), (.bipush 12, 12, []), (.aload_n 0, 0, [0]), (.getfield 351, 0, [16, 6, 0]), (.invokevirtual 357, 0, [243, 16, 33, 102, 0, 3, 0, 0]), (.pop, 0, []), (.nop, 0, [291])]
def s282_291 : List E := [(.aload_n 0, 0, [0]), (.iload_n 2, 0, [2]), (.putfield 465, 0, [16, 27, 0]), (.iload_n 3, 0, [3]), (.ireturn, 0, [])]
def cd282 : List (Nat × List E) := [(0, s282_0), (30, s282_30), (33, s282_33), (49, s282_49), (64, s282_64), (82, s282_82), (86, s282_86), (110, s282_110), (111, s282_111), (125, s282_125), (127, s282_127), (132, s282_132), (151, s282_151), (231, s282_231), (258, s282_258), (260, s282_260), (280, s282_280), (291, s282_291)]
theorem l282_0 : lkc cd282 0 = s282_0 := rfl
theorem l282_30 : lkc cd282 30 = s282_30 := rfl
theorem l282_33 : lkc cd282 33 = s282_33 := rfl
theorem l282_49 : lkc cd282 49 = s282_49 := rfl
theorem l282_64 : lkc cd282 64 = s282_64 := rfl
theorem l282_82 : lkc cd282 82 = s282_82 := rfl
theorem l282_86 : lkc cd282 86 = s282_86 := rfl
theorem l282_110 : lkc cd282 110 = s282_110 := rfl
theorem l282_111 : lkc cd282 111 = s282_111 := rfl
theorem l282_125 : lkc cd282 125 = s282_125 := rfl
theorem l282_127 : lkc cd282 127 = s282_127 := rfl
theorem l282_132 : lkc cd282 132 = s282_132 := rfl
theorem l282_151 : lkc cd282 151 = s282_151 := rfl
theorem l282_231 : lkc cd282 231 = s282_231 := rfl
theorem l282_258 : lkc cd282 258 = s282_258 := rfl
theorem l282_260 : lkc cd282 260 = s282_260 := rfl
theorem l282_280 : lkc cd282 280 = s282_280 := rfl
theorem l282_291 : lkc cd282 291 = s282_291 := rfl
theorem k282 : chkM 282 16 true cd282 = true := by decide +kernel
/- FontHouseModel.remember(I)V -/
def s283_0 : List E := [(.iconst 3, 3, []), (.istore_n 2, 0, [2]), (.nop, 0, [2])]
def s283_2 : List E := [(.iload_n 2, 0, [2]), (.ifCond .le 23, 0, [26]), (.aload_n 0, 0, [0]), (.getfield 72, 19, [16, 24, 81, 1]), (.iload_n 2, 0, [2]), (.aload_n 0, 0, [0]), (.getfield 72, 19, [16, 24, 81, 1]), (.iload_n 2, 0, [2]), (.iconst 1, 1, []), (.isub, 0, []), (.iaload, 0, []), (.iastore, 0, []), (.iinc 2 (-1), -1, [2]), (.goto (-21), 0, [2])]
def s283_26 : List E := [(.aload_n 0, 0, [0]), (.getfield 72, 19, [16, 24, 81, 1]), (.iconst 0, 0, []), (.iload_n 1, 0, [1]), (.iastore, 0, []), (.return_, 0, [])]
def cd283 : List (Nat × List E) := [(0, s283_0), (2, s283_2), (26, s283_26)]
theorem l283_0 : lkc cd283 0 = s283_0 := rfl
theorem l283_2 : lkc cd283 2 = s283_2 := rfl
theorem l283_26 : lkc cd283 26 = s283_26 := rfl
theorem k283 : chkM 283 16 true cd283 = true := by decide +kernel
/- FontHouseModel.told(I)I -/
def s284_0 : List E := [(.iload_n 1, 0, [1]), (.ifCond .lt 9, 0, [10]), (.iload_n 1, 0, [1]), (.bipush 10, 10, []), (.if_icmp .le 8, 0, [15]), (.nop, 0, [10])]
def s284_10 : List E := [(.bipush (-2), -2, []), (.goto 9, 0, [21])]
def s284_15 : List E := [(.aload_n 0, 0, [0]), (.getfield 28, 5, [16, 9, 81, 1]), (.iload_n 1, 0, [1]), (.iaload, 0, []), (.nop, 0, [21])]
def s284_21 : List E := [(.ireturn, 0, [])]
def cd284 : List (Nat × List E) := [(0, s284_0), (10, s284_10), (15, s284_15), (21, s284_21)]
theorem l284_0 : lkc cd284 0 = s284_0 := rfl
theorem l284_10 : lkc cd284 10 = s284_10 := rfl
theorem l284_15 : lkc cd284 15 = s284_15 := rfl
theorem l284_21 : lkc cd284 21 = s284_21 := rfl
theorem k284 : chkM 284 16 true cd284 = true := by decide +kernel
/- FontHouseModel.squeeze(III)I -/
def s285_0 : List E := [(.iload_n 1, 0, [1]), (.invokestatic 329, 0, [229, 154, 0, 3, 0]), (.ifCond .eq 10, 0, [14]), (.iload_n 2, 0, [2]), (.invokestatic 329, 0, [229, 154, 0, 3, 0]), (.ifCond .ne 5, 0, [16]), (.nop, 0, [14])]
def s285_14 : List E := [(.iconst (-1), -1, []), (.ireturn, 0, [])]
def s285_16 : List E := [(.iload_n 3, 0, [3]), (.ifCond .lt 8, 0, [25]), (.iload_n 3, 0, [3]), (.iconst 2, 2, []), (.if_icmp .le 6, 0, [28]), (.nop, 0, [25])]
def s285_25 : List E := [(.bipush (-2), -2, []), (.ireturn, 0, [])]
def s285_28 : List E := [(.aload_n 0, 0, [0]), (.aload_n 0, 0, [0]), (.getfield 14, 2, [16, 1, 81, 1]), (.iload_n 1, 0, [1]), (.iaload, 0, []), (.putfield 599, 0, [16, 29, 0]), (.iconst 0, 0, []), (.istore 4, 0, [4]), (.nop, 0, [41])]
def s285_41 : List E := [(.iload 4, 0, [4]), (.aload_n 0, 0, [0]), (.getfield 599, 0, [16, 29, 0]), (.if_icmp .ge 29, 0, [76]), (.aload_n 0, 0, [0]), (.getfield 75, 20, [16, 28, 83, 1]), (.iload 4, 0, [4]), (.aload_n 0, 0, [0]), (.getfield 8, 1, [16, 0, 83, 1]), (.sipush 16000, 16000, []), (.iload_n 1, 0, [1]), (.imul, 0, []), (.iload 4, 0, [4]), (.iadd, 0, []), (.baload, 0, [41]), (.bastore, 0, [41]), (.iinc 4 1, 1, [4]), (.goto (-32), 0, [41])]
def s285_76 : List E := [(.aload_n 0, 0, [0]), (.iload_n 3, 0, [3]), (.invokevirtual 608, 0, [286, 16, 33, 8, 0, 100, 0]), (.aload_n 0, 0, [0]), (.getfield 519, 0, [16, 32, 3]), (.ifCond .ne 13, 0, [98]), (.aload_n 0, 0, [0]), (.getfield 515, 0, [16, 31, 0]), (.ldc_w 611, 128000, []), (.if_icmp .le 6, 0, [101]), (.nop, 0, [98])]
def s285_98 : List E := [(.bipush (-4), -4, []), (.ireturn, 0, [])]
def s285_101 : List E := [(.aload_n 0, 0, [0]), (.getfield 14, 2, [16, 1, 81, 1]), (.iload_n 2, 0, [2]), (.aload_n 0, 0, [0]), (.getfield 515, 0, [16, 31, 0]), (.bipush 8, 8, []), (.idiv, 0, []), (.iastore, 0, []), (.iconst 0, 0, []), (.istore 4, 0, [4]), (.nop, 0, [117])]
def s285_117 : List E := [(.iload 4, 0, [4]), (.aload_n 0, 0, [0]), (.getfield 14, 2, [16, 1, 81, 1]), (.iload_n 2, 0, [2]), (.iaload, 0, []), (.if_icmp .ge 29, 0, [154]), (.aload_n 0, 0, [0]), (.getfield 8, 1, [16, 0, 83, 1]), (.sipush 16000, 16000, []), (.iload_n 2, 0, [2]), (.imul, 0, []), (.iload 4, 0, [4]), (.iadd, 0, []), (.aload_n 0, 0, [0]), (.getfield 78, 21, [16, 30, 83, 1]), (.iload 4, 0, [4]), (.baload, 0, [41]), (.bastore, 0, [41]), (.iinc 4 1, 1, [4]), (.goto (-34), 0, [117])]
def s285_154 : List E := [(.aload_n 0, 0, [0]), (.getfield 14, 2, [16, 1, 81, 1]), (.iload_n 2, 0, [2]), (.iaload, 0, []), (.ireturn, 0, [])]
def cd285 : List (Nat × List E) := [(0, s285_0), (14, s285_14), (16, s285_16), (25, s285_25), (28, s285_28), (41, s285_41), (76, s285_76), (98, s285_98), (101, s285_101), (117, s285_117), (154, s285_154)]
theorem l285_0 : lkc cd285 0 = s285_0 := rfl
theorem l285_14 : lkc cd285 14 = s285_14 := rfl
theorem l285_16 : lkc cd285 16 = s285_16 := rfl
theorem l285_25 : lkc cd285 25 = s285_25 := rfl
theorem l285_28 : lkc cd285 28 = s285_28 := rfl
theorem l285_41 : lkc cd285 41 = s285_41 := rfl
theorem l285_76 : lkc cd285 76 = s285_76 := rfl
theorem l285_98 : lkc cd285 98 = s285_98 := rfl
theorem l285_101 : lkc cd285 101 = s285_101 := rfl
theorem l285_117 : lkc cd285 117 = s285_117 := rfl
theorem l285_154 : lkc cd285 154 = s285_154 := rfl
theorem k285 : chkM 285 16 true cd285 = true := by decide +kernel
/- FontHouseModel.squeezing(I)V -/
def s286_0 : List E := [(.aload_n 0, 0, [0]), (.iconst 0, 0, []), (.putfield 515, 0, [16, 31, 0]), (.aload_n 0, 0, [0]), (.iconst 0, 0, []), (.putfield 519, 0, [16, 32, 3]), (.aload_n 0, 0, [0]), (.iconst 4, 4, []), (.putfield 572, 0, [16, 48, 0]), (.aload_n 0, 0, [0]), (.iconst 0, 0, []), (.iconst 1, 1, []), (.invokevirtual 523, 0, [287, 16, 33, 127, 0, 100, 0, 0]), (.iconst 0, 0, []), (.istore_n 2, 0, [2]), (.nop, 0, [23])]
def s286_23 : List E := [(.iload_n 2, 0, [2]), (.aload_n 0, 0, [0]), (.getfield 599, 0, [16, 29, 0]), (.if_icmp .ge 111, 0, [139]), (.iload_n 2, 0, [2]), (.sipush 4096, 4096, []), (.iadd, 0, []), (.aload_n 0, 0, [0]), (.getfield 599, 0, [16, 29, 0]), (.if_icmp .ge 11, 0, [51]), (.iload_n 2, 0, [2]), (.sipush 4096, 4096, []), (.iadd, 0, []), (.goto 7, 0, [55])]
def s286_51 : List E := [(.aload_n 0, 0, [0]), (.getfield 599, 0, [16, 29, 0]), (.nop, 0, [55])]
def s286_55 : List E := [(.istore_n 3, 0, [3]), (.aload_n 0, 0, [0]), (.iconst 0, 0, []), (.iconst 3, 3, []), (.invokevirtual 523, 0, [287, 16, 33, 127, 0, 100, 0, 0]), (.aload_n 0, 0, [0]), (.iload_n 3, 0, [3]), (.iload_n 2, 0, [2]), (.isub, 0, []), (.iconst 1, 1, []), (.isub, 0, []), (.bipush 16, 16, []), (.invokevirtual 523, 0, [287, 16, 33, 127, 0, 100, 0, 0]), (.iload_n 1, 0, [1]), (.ifCond .ne 43, 0, [117]), (.aload_n 0, 0, [0]), (.iconst 1, 1, []), (.iconst 1, 1, []), (.invokevirtual 523, 0, [287, 16, 33, 127, 0, 100, 0, 0]), (.aload_n 0, 0, [0]), (.invokevirtual 602, 0, [288, 16, 33, 107, 0, 100]), (.iload_n 2, 0, [2]), (.istore 4, 0, [4]), (.nop, 0, [90])]
def s286_90 : List E := [(.iload 4, 0, [4]), (.iload_n 3, 0, [3]), (.if_icmp .ge 21, 0, [114]), (.aload_n 0, 0, [0]), (.aload_n 0, 0, [0]), (.iload 4, 0, [4]), (.invokevirtual 584, 0, [289, 16, 33, 129, 0, 0, 0]), (.bipush 8, 8, []), (.invokevirtual 523, 0, [287, 16, 33, 127, 0, 100, 0, 0]), (.iinc 4 1, 1, [4]), (.goto (-21), 0, [90])]
def s286_114 : List E := [(.goto 16, 0, [130])]
def s286_117 : List E := [(.aload_n 0, 0, [0]), (.iconst 0, 0, []), (.iconst 1, 1, []), (.invokevirtual 523, 0, [287, 16, 33, 127, 0, 100, 0, 0]), (.aload_n 0, 0, [0]), (.iload_n 1, 0, [1]), (.iload_n 2, 0, [2]), (.iload_n 3, 0, [3]), (.invokevirtual 605, 0, [290, 16, 33, 8, 0, 100, 0, 0, 0]), (.nop, 0, [130])]
def s286_130 : List E := [(.iinc 2 4096, 4096, [2]), (.goto (-113), 0, [23])]
def s286_139 : List E := [(.aload_n 0, 0, [0]), (.iconst 3, 3, []), (.iconst 2, 2, []), (.invokevirtual 523, 0, [287, 16, 33, 127, 0, 100, 0, 0]), (.aload_n 0, 0, [0]), (.invokevirtual 602, 0, [288, 16, 33, 107, 0, 100]), (.return_, 0, [])]
def cd286 : List (Nat × List E) := [(0, s286_0), (23, s286_23), (51, s286_51), (55, s286_55), (90, s286_90), (114, s286_114), (117, s286_117), (130, s286_130), (139, s286_139)]
theorem l286_0 : lkc cd286 0 = s286_0 := rfl
theorem l286_23 : lkc cd286 23 = s286_23 := rfl
theorem l286_51 : lkc cd286 51 = s286_51 := rfl
theorem l286_55 : lkc cd286 55 = s286_55 := rfl
theorem l286_90 : lkc cd286 90 = s286_90 := rfl
theorem l286_114 : lkc cd286 114 = s286_114 := rfl
theorem l286_117 : lkc cd286 117 = s286_117 := rfl
theorem l286_130 : lkc cd286 130 = s286_130 := rfl
theorem l286_139 : lkc cd286 139 = s286_139 := rfl
theorem k286 : chkM 286 16 true cd286 = true := by decide +kernel
/- FontHouseModel.bits(II)V -/
def s287_0 : List E := [(.iconst 0, 0, []), (.istore_n 3, 0, [3]), (.nop, 0, [2])]
def s287_2 : List E := [(.iload_n 3, 0, [3]), (.iload_n 2, 0, [2]), (.if_icmp .ge 86, 0, [90]), (.aload_n 0, 0, [0]), (.getfield 515, 0, [16, 31, 0]), (.ldc_w 518, 160000, []), (.if_icmp .lt 9, 0, [23]), (.aload_n 0, 0, [0]), (.iconst 1, 1, []), (.putfield 519, 0, [16, 32, 3]), (.return_, 0, [])]
def s287_23 : List E := [(.aload_n 0, 0, [0]), (.getfield 515, 0, [16, 31, 0]), (.bipush 7, 7, []), (.iand, 0, []), (.ifCond .ne 15, 0, [45]), (.aload_n 0, 0, [0]), (.getfield 78, 21, [16, 30, 83, 1]), (.aload_n 0, 0, [0]), (.getfield 515, 0, [16, 31, 0]), (.iconst 3, 3, []), (.ishr, 0, []), (.iconst 0, 0, []), (.bastore, 0, [41]), (.nop, 0, [45])]
def s287_45 : List E := [(.aload_n 0, 0, [0]), (.getfield 78, 21, [16, 30, 83, 1]), (.aload_n 0, 0, [0]), (.getfield 515, 0, [16, 31, 0]), (.iconst 3, 3, []), (.ishr, 0, []), (.dup2, 0, []), (.baload, 0, [41]), (.iload_n 1, 0, [1]), (.iload_n 3, 0, [3]), (.ishr, 0, []), (.iconst 1, 1, []), (.iand, 0, []), (.aload_n 0, 0, [0]), (.getfield 515, 0, [16, 31, 0]), (.bipush 7, 7, []), (.iand, 0, []), (.ishl, 0, []), (.i2b, 0, []), (.ior, 0, []), (.i2b, 0, []), (.bastore, 0, [41]), (.aload_n 0, 0, [0]), (.dup, 0, []), (.getfield 515, 0, [16, 31, 0]), (.iconst 1, 1, []), (.iadd, 0, []), (.putfield 515, 0, [16, 31, 0]), (.iinc 3 1, 1, [3]), (.goto (-85), 0, [2])]
def s287_90 : List E := [(.return_, 0, [])]
def cd287 : List (Nat × List E) := [(0, s287_0), (2, s287_2), (23, s287_23), (45, s287_45), (90, s287_90)]
theorem l287_0 : lkc cd287 0 = s287_0 := rfl
theorem l287_2 : lkc cd287 2 = s287_2 := rfl
theorem l287_23 : lkc cd287 23 = s287_23 := rfl
theorem l287_45 : lkc cd287 45 = s287_45 := rfl
theorem l287_90 : lkc cd287 90 = s287_90 := rfl
theorem k287 : chkM 287 16 true cd287 = true := by decide +kernel
/- FontHouseModel.fillByte()V -/
def s288_0 : List E := [(.aload_n 0, 0, [0]), (.iconst 0, 0, []), (.aload_n 0, 0, [0]), (.getfield 515, 0, [16, 31, 0]), (.ineg, 0, []), (.bipush 7, 7, []), (.iand, 0, []), (.invokevirtual 523, 0, [287, 16, 33, 8, 0, 100, 0, 0]), (.return_, 0, [])]
def cd288 : List (Nat × List E) := [(0, s288_0)]
theorem l288_0 : lkc cd288 0 = s288_0 := rfl
theorem k288 : chkM 288 16 true cd288 = true := by decide +kernel
/- FontHouseModel.plainAt(I)I -/
def s289_0 : List E := [(.iload_n 1, 0, [1]), (.ifCond .ge 7, 0, [8]), (.iconst 0, 0, []), (.goto 13, 0, [18])]
def s289_8 : List E := [(.aload_n 0, 0, [0]), (.getfield 75, 20, [16, 28, 83, 1]), (.iload_n 1, 0, [1]), (.baload, 0, [41]), (.sipush 255, 255, []), (.iand, 0, []), (.nop, 0, [18])]
def s289_18 : List E := [(.ireturn, 0, [])]
def cd289 : List (Nat × List E) := [(0, s289_0), (8, s289_8), (18, s289_18)]
theorem l289_0 : lkc cd289 0 = s289_0 := rfl
theorem l289_8 : lkc cd289 8 = s289_8 := rfl
theorem l289_18 : lkc cd289 18 = s289_18 := rfl
theorem k289 : chkM 289 16 true cd289 = true := by decide +kernel
/- FontHouseModel.piece(III)V -/
def s290_0 : List E := [(.aload_n 0, 0, [0]), (.iload_n 2, 0, [2]), (.iload_n 3, 0, [3]), (.invokevirtual 578, 0, [291, 16, 33, 73, 0, 100, 0, 0]), (.aload_n 0, 0, [0]), (.invokevirtual 581, 0, [293, 16, 33, 58, 0, 100]), (.iconst 0, 0, []), (.istore 4, 0, [4]), (.nop, 0, [13])]
def s290_13 : List E := [(.iload 4, 0, [4]), (.sipush 4928, 4928, []), (.if_icmp .ge 17, 0, [35]), (.aload_n 0, 0, [0]), (.getfield 93, 26, [16, 38, 81, 1]), (.iload 4, 0, [4]), (.iconst 0, 0, []), (.iastore, 0, []), (.iinc 4 1, 1, [4]), (.goto (-19), 0, [13])]
def s290_35 : List E := [(.iload_n 2, 0, [2]), (.istore 4, 0, [4]), (.iconst 0, 0, []), (.istore 5, 0, [5]), (.nop, 0, [41])]
def s290_41 : List E := [(.iload 5, 0, [5]), (.aload_n 0, 0, [0]), (.getfield 556, 0, [16, 33, 0]), (.if_icmp .ge 137, 0, [184]), (.aload_n 0, 0, [0]), (.getfield 93, 26, [16, 38, 81, 1]), (.sipush 2816, 2816, []), (.aload_n 0, 0, [0]), (.getfield 90, 25, [16, 37, 81, 1]), (.iload 5, 0, [5]), (.iaload, 0, []), (.sipush 1000, 1000, []), (.irem, 0, []), (.iadd, 0, []), (.dup2, 0, []), (.iaload, 0, []), (.iconst 1, 1, []), (.iadd, 0, []), (.iastore, 0, []), (.iconst 0, 0, []), (.istore 6, 0, [6]), (.nop, 0, [77])]
def s290_77 : List E := [(.iload 6, 0, [6]), (.aload_n 0, 0, [0]), (.getfield 81, 22, [16, 34, 81, 1]), (.iload 5, 0, [5]), (.iaload, 0, []), (.if_icmp .ge 52, 0, [138]), (.aload_n 0, 0, [0]), (.getfield 93, 26, [16, 38, 81, 1]), (.sipush 704, 704, []), (.iload_n 1, 0, [1]), (.aload_n 0, 0, [0]), (.iload 4, 0, [4]), (.iconst 1, 1, []), (.isub, 0, []), (.invokevirtual 584, 0, [289, 16, 33, 103, 0, 0, 0]), (.aload_n 0, 0, [0]), (.iload 4, 0, [4]), (.iconst 2, 2, []), (.isub, 0, []), (.invokevirtual 584, 0, [289, 16, 33, 103, 0, 0, 0]), (.invokestatic 587, 0, [297, 36, 0, 0, 0, 0, 0]), (.imul, 0, []), (.aload_n 0, 0, [0]), (.iload 4, 0, [4]), (.invokevirtual 584, 0, [289, 16, 33, 103, 0, 0, 0]), (.iadd, 0, []), (.dup2, 0, []), (.iaload, 0, []), (.iconst 1, 1, []), (.iadd, 0, []), (.iastore, 0, []), (.iinc 4 1, 1, [4]), (.iinc 6 1, 1, [6]), (.goto (-58), 0, [77])]
def s290_138 : List E := [(.iload 4, 0, [4]), (.aload_n 0, 0, [0]), (.getfield 84, 23, [16, 35, 81, 1]), (.iload 5, 0, [5]), (.iaload, 0, []), (.iadd, 0, []), (.istore 4, 0, [4]), (.aload_n 0, 0, [0]), (.iload 5, 0, [5]), (.invokevirtual 590, 0, [298, 16, 33, 59, 0, 0, 0]), (.istore 6, 0, [6]), (.iload 6, 0, [6]), (.ifCond .lt 18, 0, [178]), (.aload_n 0, 0, [0]), (.getfield 93, 26, [16, 38, 81, 1]), (.sipush 3520, 3520, []), (.iload 6, 0, [6]), (.iadd, 0, []), (.dup2, 0, []), (.iaload, 0, []), (.iconst 1, 1, []), (.iadd, 0, []), (.iastore, 0, []), (.nop, 0, [178])]
def s290_178 : List E := [(.iinc 5 1, 1, [5]), (.goto (-140), 0, [41])]
def s290_184 : List E := [(.aload_n 0, 0, [0]), (.iconst 0, 0, []), (.bipush 9, 9, []), (.invokevirtual 523, 0, [287, 16, 33, 101, 0, 100, 0, 0]), (.aload_n 0, 0, [0]), (.iload_n 1, 0, [1]), (.iconst 1, 1, []), (.if_icmp .ne 7, 0, [201]), (.iconst 0, 0, []), (.goto 4, 0, [202])]
def s290_201 : List E := [(.iconst 2, 2, []), (.nop, 0, [202])]
def s290_202 : List E := [(.iconst 2, 2, []), (.invokevirtual 523, 0, [287, 16, 33, 101, 0, 100, 0, 0]), (.iload_n 1, 0, [1]), (.iconst 1, 1, []), (.if_icmp .ne 12, 0, [220]), (.aload_n 0, 0, [0]), (.iconst 0, 0, []), (.iconst 1, 1, []), (.invokevirtual 523, 0, [287, 16, 33, 101, 0, 100, 0, 0]), (.goto 95, 0, [312])]
def s290_220 : List E := [(.aload_n 0, 0, [0]), (.iconst 1, 1, []), (.iconst 1, 1, []), (.invokevirtual 523, 0, [287, 16, 33, 101, 0, 100, 0, 0]), (.aload_n 0, 0, [0]), (.iconst 1, 1, []), (.iconst 3, 3, []), (.invokevirtual 523, 0, [287, 16, 33, 101, 0, 100, 0, 0]), (.aload_n 0, 0, [0]), (.iconst 1, 1, []), (.iconst 1, 1, []), (.invokevirtual 523, 0, [287, 16, 33, 101, 0, 100, 0, 0]), (.aload_n 0, 0, [0]), (.iconst 0, 0, []), (.iconst 1, 1, []), (.invokevirtual 523, 0, [287, 16, 33, 101, 0, 100, 0, 0]), (.iconst 0, 0, []), (.istore 5, 0, [5]), (.nop, 0, [247])]
def s290_247 : List E := [(.iload 5, 0, [5]), (.iconst 4, 4, []), (.if_icmp .ge 22, 0, [272]), (.aload_n 0, 0, [0]), (.getfield 93, 26, [16, 38, 81, 1]), (.sipush 4224, 4224, []), (.iload 5, 0, [5]), (.iadd, 0, []), (.bipush 16, 16, []), (.iastore, 0, []), (.iinc 5 1, 1, [5]), (.goto (-22), 0, [247])]
def s290_272 : List E := [(.aload_n 0, 0, [0]), (.bipush 6, 6, []), (.iconst 4, 4, []), (.invokevirtual 593, 0, [300, 16, 33, 18, 0, 100, 0, 0]), (.iconst 0, 0, []), (.istore 5, 0, [5]), (.nop, 0, [282])]
def s290_282 : List E := [(.iload 5, 0, [5]), (.bipush 64, 64, []), (.if_icmp .ge 20, 0, [306]), (.aload_n 0, 0, [0]), (.bipush 6, 6, []), (.iload 5, 0, [5]), (.bipush 16, 16, []), (.idiv, 0, []), (.invokevirtual 550, 0, [307, 16, 33, 77, 0, 100, 0, 0]), (.iinc 5 1, 1, [5]), (.goto (-21), 0, [282])]
def s290_306 : List E := [(.aload_n 0, 0, [0]), (.iconst 0, 0, []), (.iconst 1, 1, []), (.invokevirtual 523, 0, [287, 16, 33, 101, 0, 100, 0, 0]), (.nop, 0, [312])]
def s290_312 : List E := [(.aload_n 0, 0, [0]), (.iconst 0, 0, []), (.iconst 1, 1, []), (.invokevirtual 523, 0, [287, 16, 33, 101, 0, 100, 0, 0]), (.iconst 0, 0, []), (.istore 5, 0, [5]), (.nop, 0, [321])]
def s290_321 : List E := [(.iload 5, 0, [5]), (.iload_n 1, 0, [1]), (.iconst 1, 1, []), (.if_icmp .ne 7, 0, [332]), (.iconst 1, 1, []), (.goto 4, 0, [333])]
def s290_332 : List E := [(.iconst 4, 4, []), (.nop, 0, [333])]
def s290_333 : List E := [(.if_icmp .ge 18, 0, [351]), (.aload_n 0, 0, [0]), (.iload 5, 0, [5]), (.sipush 256, 256, []), (.invokevirtual 593, 0, [300, 16, 33, 18, 0, 100, 0, 0]), (.iinc 5 1, 1, [5]), (.goto (-27), 0, [321])]
def s290_351 : List E := [(.aload_n 0, 0, [0]), (.iconst 4, 4, []), (.sipush 704, 704, []), (.invokevirtual 593, 0, [300, 16, 33, 18, 0, 100, 0, 0]), (.aload_n 0, 0, [0]), (.iconst 5, 5, []), (.bipush 64, 64, []), (.invokevirtual 593, 0, [300, 16, 33, 18, 0, 100, 0, 0]), (.aload_n 0, 0, [0]), (.iload_n 1, 0, [1]), (.iload_n 2, 0, [2]), (.invokevirtual 596, 0, [308, 16, 33, 8, 0, 100, 0, 0]), (.return_, 0, [])]
def cd290 : List (Nat × List E) := [(0, s290_0), (13, s290_13), (35, s290_35), (41, s290_41), (77, s290_77), (138, s290_138), (178, s290_178), (184, s290_184), (201, s290_201), (202, s290_202), (220, s290_220), (247, s290_247), (272, s290_272), (282, s290_282), (306, s290_306), (312, s290_312), (321, s290_321), (332, s290_332), (333, s290_333), (351, s290_351)]
theorem l290_0 : lkc cd290 0 = s290_0 := rfl
theorem l290_13 : lkc cd290 13 = s290_13 := rfl
theorem l290_35 : lkc cd290 35 = s290_35 := rfl
theorem l290_41 : lkc cd290 41 = s290_41 := rfl
theorem l290_77 : lkc cd290 77 = s290_77 := rfl
theorem l290_138 : lkc cd290 138 = s290_138 := rfl
theorem l290_178 : lkc cd290 178 = s290_178 := rfl
theorem l290_184 : lkc cd290 184 = s290_184 := rfl
theorem l290_201 : lkc cd290 201 = s290_201 := rfl
theorem l290_202 : lkc cd290 202 = s290_202 := rfl
theorem l290_220 : lkc cd290 220 = s290_220 := rfl
theorem l290_247 : lkc cd290 247 = s290_247 := rfl
theorem l290_272 : lkc cd290 272 = s290_272 := rfl
theorem l290_282 : lkc cd290 282 = s290_282 := rfl
theorem l290_306 : lkc cd290 306 = s290_306 := rfl
theorem l290_312 : lkc cd290 312 = s290_312 := rfl
theorem l290_321 : lkc cd290 321 = s290_321 := rfl
theorem l290_332 : lkc cd290 332 = s290_332 := rfl
theorem l290_333 : lkc cd290 333 = s290_333 := rfl
theorem l290_351 : lkc cd290 351 = s290_351 := rfl
theorem k290 : chkM 290 16 true cd290 = true := by decide +kernel
/- FontHouseModel.findActs(II)V -/
def s291_0 : List E := [(.aload_n 0, 0, [0]), (.iconst 0, 0, []), (.putfield 556, 0, [16, 33, 0]), (.iconst 0, 0, []), (.istore_n 3, 0, [3]), (.iload_n 1, 0, [1]), (.istore 4, 0, [4]), (.nop, 0, [10])]
def s291_10 : List E := [(.iload 4, 0, [4]), (.iload_n 2, 0, [2]), (.if_icmp .ge 87, 0, [100]), (.aload_n 0, 0, [0]), (.iload 4, 0, [4]), (.iload_n 2, 0, [2]), (.invokevirtual 559, 0, [292, 16, 33, 8, 0, 0, 0, 0]), (.istore 5, 0, [5]), (.iload 5, 0, [5]), (.ifCond .ge 12, 0, [39]), (.iinc 3 1, 1, [3]), (.iinc 4 1, 1, [4]), (.goto 61, 0, [97])]
def s291_39 : List E := [(.aload_n 0, 0, [0]), (.getfield 81, 22, [16, 34, 81, 1]), (.aload_n 0, 0, [0]), (.getfield 556, 0, [16, 33, 0]), (.iload_n 3, 0, [3]), (.iastore, 0, []), (.aload_n 0, 0, [0]), (.getfield 84, 23, [16, 35, 81, 1]), (.aload_n 0, 0, [0]), (.getfield 556, 0, [16, 33, 0]), (.aload_n 0, 0, [0]), (.getfield 553, 0, [16, 49, 0]), (.iastore, 0, []), (.aload_n 0, 0, [0]), (.getfield 87, 24, [16, 36, 81, 1]), (.aload_n 0, 0, [0]), (.getfield 556, 0, [16, 33, 0]), (.iload 4, 0, [4]), (.iload 5, 0, [5]), (.isub, 0, []), (.iastore, 0, []), (.aload_n 0, 0, [0]), (.dup, 0, []), (.getfield 556, 0, [16, 33, 0]), (.iconst 1, 1, []), (.iadd, 0, []), (.putfield 556, 0, [16, 33, 0]), (.iconst 0, 0, []), (.istore_n 3, 0, [3]), (.iload 4, 0, [4]), (.aload_n 0, 0, [0]), (.getfield 553, 0, [16, 49, 0]), (.iadd, 0, []), (.istore 4, 0, [4]), (.nop, 0, [97])]
def s291_97 : List E := [(.goto (-87), 0, [10])]
def s291_100 : List E := [(.iload_n 3, 0, [3]), (.ifCond .le 43, 0, [144]), (.aload_n 0, 0, [0]), (.getfield 81, 22, [16, 34, 81, 1]), (.aload_n 0, 0, [0]), (.getfield 556, 0, [16, 33, 0]), (.iload_n 3, 0, [3]), (.iastore, 0, []), (.aload_n 0, 0, [0]), (.getfield 84, 23, [16, 35, 81, 1]), (.aload_n 0, 0, [0]), (.getfield 556, 0, [16, 33, 0]), (.iconst 0, 0, []), (.iastore, 0, []), (.aload_n 0, 0, [0]), (.getfield 87, 24, [16, 36, 81, 1]), (.aload_n 0, 0, [0]), (.getfield 556, 0, [16, 33, 0]), (.iconst 0, 0, []), (.iastore, 0, []), (.aload_n 0, 0, [0]), (.dup, 0, []), (.getfield 556, 0, [16, 33, 0]), (.iconst 1, 1, []), (.iadd, 0, []), (.putfield 556, 0, [16, 33, 0]), (.nop, 0, [144])]
def s291_144 : List E := [(.return_, 0, [])]
def cd291 : List (Nat × List E) := [(0, s291_0), (10, s291_10), (39, s291_39), (97, s291_97), (100, s291_100), (144, s291_144)]
theorem l291_0 : lkc cd291 0 = s291_0 := rfl
theorem l291_10 : lkc cd291 10 = s291_10 := rfl
theorem l291_39 : lkc cd291 39 = s291_39 := rfl
theorem l291_97 : lkc cd291 97 = s291_97 := rfl
theorem l291_100 : lkc cd291 100 = s291_100 := rfl
theorem l291_144 : lkc cd291 144 = s291_144 := rfl
theorem k291 : chkM 291 16 true cd291 = true := by decide +kernel
/- FontHouseModel.match(II)I -/
def s292_0 : List E := [(.iconst (-1), -1, []), (.istore_n 3, 0, [3]), (.aload_n 0, 0, [0]), (.iconst 0, 0, []), (.putfield 553, 0, [16, 49, 0]), (.iconst 0, 0, []), (.istore 4, 0, [4]), (.iload_n 1, 0, [1]), (.iconst 1, 1, []), (.isub, 0, []), (.istore 5, 0, [5]), (.nop, 0, [15])]
def s292_15 : List E := [(.iload 5, 0, [5]), (.ifCond .lt 123, 0, [140]), (.iload 4, 0, [4]), (.bipush 16, 16, []), (.if_icmp .ge 116, 0, [140]), (.iload_n 1, 0, [1]), (.iconst 4, 4, []), (.iadd, 0, []), (.iload_n 2, 0, [2]), (.if_icmp .gt 109, 0, [140]), (.iconst 0, 0, []), (.istore 6, 0, [6]), (.nop, 0, [37])]
def s292_37 : List E := [(.iload 6, 0, [6]), (.iconst 4, 4, []), (.if_icmp .ge 31, 0, [71]), (.aload_n 0, 0, [0]), (.getfield 75, 20, [16, 28, 83, 1]), (.iload 5, 0, [5]), (.iload 6, 0, [6]), (.iadd, 0, []), (.baload, 0, [41]), (.aload_n 0, 0, [0]), (.getfield 75, 20, [16, 28, 83, 1]), (.iload_n 1, 0, [1]), (.iload 6, 0, [6]), (.iadd, 0, []), (.baload, 0, [41]), (.if_icmp .ne 9, 0, [71]), (.iinc 6 1, 1, [6]), (.goto (-31), 0, [37])]
def s292_71 : List E := [(.iload 6, 0, [6]), (.iconst 4, 4, []), (.if_icmp .ne 60, 0, [134]), (.iinc 4 1, 1, [4]), (.nop, 0, [80])]
def s292_80 : List E := [(.iload_n 1, 0, [1]), (.iload 6, 0, [6]), (.iadd, 0, []), (.iload_n 2, 0, [2]), (.if_icmp .ge 31, 0, [116]), (.aload_n 0, 0, [0]), (.getfield 75, 20, [16, 28, 83, 1]), (.iload 5, 0, [5]), (.iload 6, 0, [6]), (.iadd, 0, []), (.baload, 0, [41]), (.aload_n 0, 0, [0]), (.getfield 75, 20, [16, 28, 83, 1]), (.iload_n 1, 0, [1]), (.iload 6, 0, [6]), (.iadd, 0, []), (.baload, 0, [41]), (.if_icmp .ne 9, 0, [116]), (.iinc 6 1, 1, [6]), (.goto (-33), 0, [80])]
def s292_116 : List E := [(.iload 6, 0, [6]), (.aload_n 0, 0, [0]), (.getfield 553, 0, [16, 49, 0]), (.if_icmp .le 12, 0, [134]), (.aload_n 0, 0, [0]), (.iload 6, 0, [6]), (.putfield 553, 0, [16, 49, 0]), (.iload 5, 0, [5]), (.istore_n 3, 0, [3]), (.nop, 0, [134])]
def s292_134 : List E := [(.iinc 5 (-1), -1, [5]), (.goto (-122), 0, [15])]
def s292_140 : List E := [(.iload_n 3, 0, [3]), (.ireturn, 0, [])]
def cd292 : List (Nat × List E) := [(0, s292_0), (15, s292_15), (37, s292_37), (71, s292_71), (80, s292_80), (116, s292_116), (134, s292_134), (140, s292_140)]
theorem l292_0 : lkc cd292 0 = s292_0 := rfl
theorem l292_15 : lkc cd292 15 = s292_15 := rfl
theorem l292_37 : lkc cd292 37 = s292_37 := rfl
theorem l292_71 : lkc cd292 71 = s292_71 := rfl
theorem l292_80 : lkc cd292 80 = s292_80 := rfl
theorem l292_116 : lkc cd292 116 = s292_116 := rfl
theorem l292_134 : lkc cd292 134 = s292_134 := rfl
theorem l292_140 : lkc cd292 140 = s292_140 := rfl
theorem k292 : chkM 292 16 true cd292 = true := by decide +kernel
/- FontHouseModel.symbolsOfActs()V -/
def s293_0 : List E := [(.iconst 0, 0, []), (.istore_n 1, 0, [1]), (.nop, 0, [2])]
def s293_2 : List E := [(.iload_n 1, 0, [1]), (.aload_n 0, 0, [0]), (.getfield 556, 0, [16, 33, 0]), (.if_icmp .ge 188, 0, [195]), (.aload_n 0, 0, [0]), (.getfield 81, 22, [16, 34, 81, 1]), (.iload_n 1, 0, [1]), (.iaload, 0, []), (.invokestatic 566, 0, [294, 8, 0, 0, 0]), (.istore_n 2, 0, [2]), (.aload_n 0, 0, [0]), (.getfield 84, 23, [16, 35, 81, 1]), (.iload_n 1, 0, [1]), (.iaload, 0, []), (.ifCond .ne 7, 0, [33]), (.iconst 0, 0, []), (.goto 12, 0, [42])]
def s293_33 : List E := [(.aload_n 0, 0, [0]), (.getfield 84, 23, [16, 35, 81, 1]), (.iload_n 1, 0, [1]), (.iaload, 0, []), (.invokestatic 569, 0, [295, 8, 0, 0, 0]), (.nop, 0, [42])]
def s293_42 : List E := [(.istore_n 3, 0, [3]), (.aload_n 0, 0, [0]), (.getfield 84, 23, [16, 35, 81, 1]), (.iload_n 1, 0, [1]), (.iaload, 0, []), (.ifCond .eq 16, 0, [65]), (.aload_n 0, 0, [0]), (.getfield 87, 24, [16, 36, 81, 1]), (.iload_n 1, 0, [1]), (.iaload, 0, []), (.aload_n 0, 0, [0]), (.getfield 572, 0, [16, 48, 0]), (.if_icmp .ne 7, 0, [69]), (.nop, 0, [65])]
def s293_65 : List E := [(.iconst 1, 1, []), (.goto 4, 0, [70])]
def s293_69 : List E := [(.iconst 0, 0, []), (.nop, 0, [70])]
def s293_70 : List E := [(.istore 4, 0, [4]), (.aload_n 0, 0, [0]), (.getfield 84, 23, [16, 35, 81, 1]), (.iload_n 1, 0, [1]), (.iaload, 0, []), (.ifCond .le 13, 0, [91]), (.aload_n 0, 0, [0]), (.aload_n 0, 0, [0]), (.getfield 87, 24, [16, 36, 81, 1]), (.iload_n 1, 0, [1]), (.iaload, 0, []), (.putfield 572, 0, [16, 48, 0]), (.nop, 0, [91])]
def s293_91 : List E := [(.aload_n 0, 0, [0]), (.getfield 84, 23, [16, 35, 81, 1]), (.iload_n 1, 0, [1]), (.iaload, 0, []), (.ifCond .le 46, 0, [143]), (.iload 4, 0, [4]), (.ifCond .eq 41, 0, [143]), (.iload_n 2, 0, [2]), (.bipush 8, 8, []), (.if_icmp .ge 35, 0, [143]), (.iload_n 3, 0, [3]), (.bipush 16, 16, []), (.if_icmp .ge 29, 0, [143]), (.aload_n 0, 0, [0]), (.getfield 90, 25, [16, 37, 81, 1]), (.iload_n 1, 0, [1]), (.bipush 64, 64, []), (.iload_n 3, 0, [3]), (.bipush 8, 8, []), (.idiv, 0, []), (.imul, 0, []), (.bipush 8, 8, []), (.iload_n 2, 0, [2]), (.imul, 0, []), (.iadd, 0, []), (.iload_n 3, 0, [3]), (.bipush 8, 8, []), (.irem, 0, []), (.iadd, 0, []), (.iastore, 0, []), (.goto 49, 0, [189])]
def s293_143 : List E := [(.aload_n 0, 0, [0]), (.getfield 90, 25, [16, 37, 81, 1]), (.iload_n 1, 0, [1]), (.bipush 64, 64, []), (.iload_n 2, 0, [2]), (.bipush 8, 8, []), (.idiv, 0, []), (.iload_n 3, 0, [3]), (.bipush 8, 8, []), (.idiv, 0, []), (.invokestatic 575, 0, [296, 8, 0, 0, 0, 0]), (.imul, 0, []), (.bipush 8, 8, []), (.iload_n 2, 0, [2]), (.bipush 8, 8, []), (.irem, 0, []), (.imul, 0, []), (.iadd, 0, []), (.iload_n 3, 0, [3]), (.bipush 8, 8, []), (.irem, 0, []), (.iadd, 0, []), (.iload 4, 0, [4]), (.ifCond .eq 9, 0, [186]), (.sipush 1000, 1000, []), (.goto 4, 0, [187])]
def s293_186 : List E := [(.iconst 0, 0, []), (.nop, 0, [187])]
def s293_187 : List E := [(.iadd, 0, []), (.iastore, 0, []), (.nop, 0, [189])]
def s293_189 : List E := [(.iinc 1 1, 1, [1]), (.goto (-190), 0, [2])]
def s293_195 : List E := [(.return_, 0, [])]
def cd293 : List (Nat × List E) := [(0, s293_0), (2, s293_2), (33, s293_33), (42, s293_42), (65, s293_65), (69, s293_69), (70, s293_70), (91, s293_91), (143, s293_143), (186, s293_186), (187, s293_187), (189, s293_189), (195, s293_195)]
theorem l293_0 : lkc cd293 0 = s293_0 := rfl
theorem l293_2 : lkc cd293 2 = s293_2 := rfl
theorem l293_33 : lkc cd293 33 = s293_33 := rfl
theorem l293_42 : lkc cd293 42 = s293_42 := rfl
theorem l293_65 : lkc cd293 65 = s293_65 := rfl
theorem l293_69 : lkc cd293 69 = s293_69 := rfl
theorem l293_70 : lkc cd293 70 = s293_70 := rfl
theorem l293_91 : lkc cd293 91 = s293_91 := rfl
theorem l293_143 : lkc cd293 143 = s293_143 := rfl
theorem l293_186 : lkc cd293 186 = s293_186 := rfl
theorem l293_187 : lkc cd293 187 = s293_187 := rfl
theorem l293_189 : lkc cd293 189 = s293_189 := rfl
theorem l293_195 : lkc cd293 195 = s293_195 := rfl
theorem k293 : chkM 293 16 true cd293 = true := by decide +kernel
