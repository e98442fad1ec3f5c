set_option maxRecDepth 100000
/- Maker.findCopies(II)V -/
def s530_0 : List E := [(.aload_n 0, 0, [0]), (.iconst 0, 0, []), (.putfield 137, 0, [6, 15, 0]), (.iconst 0, 0, []), (.istore_n 3, 0, [3]), (.iload_n 1, 0, [1]), (.istore 4, 0, [4]), (.nop, 0, [10])]
def s530_10 : List E := [(.iload 4, 0, [4]), (.iload_n 2, 0, [2]), (.if_icmp .ge 146, 0, [159]), (.iconst 0, 0, []), (.istore 5, 0, [5]), (.iconst 0, 0, []), (.istore 6, 0, [6]), (.iconst 0, 0, []), (.istore 7, 0, [7]), (.iload 4, 0, [4]), (.iconst 4, 4, []), (.iadd, 0, []), (.iload_n 2, 0, [2]), (.if_icmp .gt 13, 0, [43]), (.aload_n 0, 0, [0]), (.getfield 22, 3, [6, 3, 81, 1]), (.iload 4, 0, [4]), (.iaload, 0, []), (.goto 4, 0, [44])]
def s530_43 : List E := [(.iconst (-1), -1, []), (.nop, 0, [44])]
def s530_44 : List E := [(.istore 8, 0, [8]), (.nop, 0, [46])]
def s530_46 : List E := [(.iload 8, 0, [8]), (.iconst (-1), -1, []), (.if_icmp .eq 75, 0, [124]), (.iload 7, 0, [7]), (.bipush 16, 16, []), (.if_icmp .ge 68, 0, [124]), (.aload_n 0, 0, [0]), (.iload 8, 0, [8]), (.invokevirtual 130, 0, [528, 6, 13, 8, 0, 0, 0]), (.aload_n 0, 0, [0]), (.iload 4, 0, [4]), (.invokevirtual 130, 0, [528, 6, 13, 8, 0, 0, 0]), (.if_icmp .eq 6, 0, [77]), (.goto 38, 0, [112])]
def s530_77 : List E := [(.iinc 7 1, 1, [7]), (.aload_n 0, 0, [0]), (.iload 8, 0, [8]), (.iload 4, 0, [4]), (.iload_n 2, 0, [2]), (.invokevirtual 140, 0, [531, 6, 13, 47, 0, 0, 0, 0, 0]), (.istore 9, 0, [9]), (.iload 9, 0, [9]), (.iload 5, 0, [5]), (.if_icmp .gt 6, 0, [101]), (.goto 14, 0, [112])]
def s530_101 : List E := [(.iload 9, 0, [9]), (.istore 5, 0, [5]), (.iload 4, 0, [4]), (.iload 8, 0, [8]), (.isub, 0, []), (.istore 6, 0, [6]), (.nop, 0, [112])]
def s530_112 : List E := [(.aload_n 0, 0, [0]), (.getfield 22, 3, [6, 3, 81, 1]), (.iload 8, 0, [8]), (.iaload, 0, []), (.istore 8, 0, [8]), (.goto (-75), 0, [46])]
def s530_124 : List E := [(.iload 5, 0, [5]), (.ifCond .ne 12, 0, [138]), (.iinc 3 1, 1, [3]), (.iinc 4 1, 1, [4]), (.goto (-125), 0, [10])]
def s530_138 : List E := [(.aload_n 0, 0, [0]), (.iload_n 3, 0, [3]), (.iload 5, 0, [5]), (.iload 6, 0, [6]), (.invokevirtual 144, 0, [532, 6, 13, 69, 0, 100, 0, 0, 0]), (.iconst 0, 0, []), (.istore_n 3, 0, [3]), (.iload 4, 0, [4]), (.iload 5, 0, [5]), (.iadd, 0, []), (.istore 4, 0, [4]), (.goto (-146), 0, [10])]
def s530_159 : List E := [(.iload_n 3, 0, [3]), (.ifCond .le 10, 0, [170]), (.aload_n 0, 0, [0]), (.iload_n 3, 0, [3]), (.iconst 0, 0, []), (.iconst 0, 0, []), (.invokevirtual 144, 0, [532, 6, 13, 69, 0, 100, 0, 0, 0]), (.nop, 0, [170])]
def s530_170 : List E := [(.return_, 0, [])]
def cd530 : List (Nat × List E) := [(0, s530_0), (10, s530_10), (43, s530_43), (44, s530_44), (46, s530_46), (77, s530_77), (101, s530_101), (112, s530_112), (124, s530_124), (138, s530_138), (159, s530_159), (170, s530_170)]
theorem l530_0 : lkc cd530 0 = s530_0 := rfl
theorem l530_10 : lkc cd530 10 = s530_10 := rfl
theorem l530_43 : lkc cd530 43 = s530_43 := rfl
theorem l530_44 : lkc cd530 44 = s530_44 := rfl
theorem l530_46 : lkc cd530 46 = s530_46 := rfl
theorem l530_77 : lkc cd530 77 = s530_77 := rfl
theorem l530_101 : lkc cd530 101 = s530_101 := rfl
theorem l530_112 : lkc cd530 112 = s530_112 := rfl
theorem l530_124 : lkc cd530 124 = s530_124 := rfl
theorem l530_138 : lkc cd530 138 = s530_138 := rfl
theorem l530_159 : lkc cd530 159 = s530_159 := rfl
theorem l530_170 : lkc cd530 170 = s530_170 := rfl
theorem k530 : chkM 530 6 true cd530 = true := by decide +kernel
/- Maker.alike(III)I -/
def s531_0 : List E := [(.iconst 0, 0, []), (.istore 4, 0, [4]), (.nop, 0, [3])]
def s531_3 : List E := [(.iload_n 2, 0, [2]), (.iload 4, 0, [4]), (.iadd, 0, []), (.iload_n 3, 0, [3]), (.if_icmp .ge 34, 0, [42]), (.aload_n 0, 0, [0]), (.getfield 84, 0, [6, 1, 7]), (.iload_n 1, 0, [1]), (.iload 4, 0, [4]), (.iadd, 0, []), (.invokevirtual 134, 0, [114, 1, 3, 8, 0, 0, 0]), (.aload_n 0, 0, [0]), (.getfield 84, 0, [6, 1, 7]), (.iload_n 2, 0, [2]), (.iload 4, 0, [4]), (.iadd, 0, []), (.invokevirtual 134, 0, [114, 1, 3, 8, 0, 0, 0]), (.if_icmp .ne 9, 0, [42]), (.iinc 4 1, 1, [4]), (.goto (-36), 0, [3])]
def s531_42 : List E := [(.iload 4, 0, [4]), (.ireturn, 0, [])]
def cd531 : List (Nat × List E) := [(0, s531_0), (3, s531_3), (42, s531_42)]
theorem l531_0 : lkc cd531 0 = s531_0 := rfl
theorem l531_3 : lkc cd531 3 = s531_3 := rfl
theorem l531_42 : lkc cd531 42 = s531_42 := rfl
theorem k531 : chkM 531 6 true cd531 = true := by decide +kernel
/- Maker.add(III)V -/
def s532_0 : List E := [(.aload_n 0, 0, [0]), (.getfield 50, 38, [6, 11, 81, 1]), (.aload_n 0, 0, [0]), (.getfield 137, 0, [6, 15, 0]), (.iload_n 1, 0, [1]), (.iastore, 0, []), (.aload_n 0, 0, [0]), (.getfield 53, 39, [6, 12, 81, 1]), (.aload_n 0, 0, [0]), (.getfield 137, 0, [6, 15, 0]), (.iload_n 2, 0, [2]), (.iastore, 0, []), (.aload_n 0, 0, [0]), (.getfield 56, 40, [6, 13, 81, 1]), (.aload_n 0, 0, [0]), (.getfield 137, 0, [6, 15, 0]), (.iload_n 3, 0, [3]), (.iastore, 0, []), (.aload_n 0, 0, [0]), (.dup, 0, []), (.getfield 137, 0, [6, 15, 0]), (.iconst 1, 1, []), (.iadd, 0, []), (.putfield 137, 0, [6, 15, 0]), (.return_, 0, [])]
def cd532 : List (Nat × List E) := [(0, s532_0)]
theorem l532_0 : lkc cd532 0 = s532_0 := rfl
theorem k532 : chkM 532 6 true cd532 = true := by decide +kernel
/- Maker.symbolOf(IIZ)I -/
def s534_0 : List E := [(.getstatic 154, 2, [8, 81]), (.iload_n 0, 0, [0]), (.invokestatic 157, 0, [535, 8, 0, 0, 0, 46]), (.istore_n 3, 0, [3]), (.iload_n 1, 0, [1]), (.ifCond .ne 7, 0, [16]), (.iconst 0, 0, []), (.goto 10, 0, [23])]
def s534_16 : List E := [(.getstatic 161, 4, [10, 81]), (.iload_n 1, 0, [1]), (.invokestatic 157, 0, [535, 8, 0, 0, 0, 46]), (.nop, 0, [23])]
def s534_23 : List E := [(.istore 4, 0, [4]), (.iload_n 3, 0, [3]), (.bipush 8, 8, []), (.irem, 0, []), (.bipush 8, 8, []), (.imul, 0, []), (.iload 4, 0, [4]), (.bipush 8, 8, []), (.irem, 0, []), (.iadd, 0, []), (.istore 5, 0, [5]), (.iload_n 2, 0, [2]), (.ifCond .eq 28, 0, [69]), (.iload_n 3, 0, [3]), (.bipush 8, 8, []), (.if_icmp .ge 22, 0, [69]), (.iload 4, 0, [4]), (.bipush 16, 16, []), (.if_icmp .ge 15, 0, [69]), (.bipush 64, 64, []), (.iload 4, 0, [4]), (.bipush 8, 8, []), (.idiv, 0, []), (.imul, 0, []), (.iload 5, 0, [5]), (.iadd, 0, []), (.ireturn, 0, [])]
def s534_69 : List E := [(.bipush 64, 64, []), (.iload_n 3, 0, [3]), (.bipush 8, 8, []), (.idiv, 0, []), (.iload 4, 0, [4]), (.bipush 8, 8, []), (.idiv, 0, []), (.invokestatic 164, 0, [536, 8, 0, 0, 0, 0]), (.imul, 0, []), (.iload 5, 0, [5]), (.iadd, 0, []), (.ireturn, 0, [])]
def cd534 : List (Nat × List E) := [(0, s534_0), (16, s534_16), (23, s534_23), (69, s534_69)]
theorem l534_0 : lkc cd534 0 = s534_0 := rfl
theorem l534_16 : lkc cd534 16 = s534_16 := rfl
theorem l534_23 : lkc cd534 23 = s534_23 := rfl
theorem l534_69 : lkc cd534 69 = s534_69 := rfl
theorem k534 : chkM 534 6 true cd534 = true := by decide +kernel
/- Maker.codeOf([II)I -/
def s535_0 : List E := [(.aload_n 0, 0, [0]), (.arraylength, 0, [40]), (.iconst 1, 1, []), (.isub, 0, []), (.istore_n 2, 0, [2]), (.nop, 0, [5])]
def s535_5 : List E := [(.aload_n 0, 0, [0]), (.iload_n 2, 0, [2]), (.iaload, 0, []), (.iload_n 1, 0, [1]), (.if_icmp .le 9, 0, [18]), (.iinc 2 (-1), -1, [2]), (.goto (-10), 0, [5])]
def s535_18 : List E := [(.iload_n 2, 0, [2]), (.ireturn, 0, [])]
def cd535 : List (Nat × List E) := [(0, s535_0), (5, s535_5), (18, s535_18)]
theorem l535_0 : lkc cd535 0 = s535_0 := rfl
theorem l535_5 : lkc cd535 5 = s535_5 := rfl
theorem l535_18 : lkc cd535 18 = s535_18 := rfl
theorem k535 : chkM 535 6 true cd535 = true := by decide +kernel
/- Maker.groupOf(II)I -/
def s536_0 : List E := [(.iconst 2, 2, []), (.istore_n 2, 0, [2]), (.nop, 0, [2])]
def s536_2 : List E := [(.getstatic 148, 8, [14, 81]), (.iload_n 2, 0, [2]), (.iaload, 0, []), (.iload_n 0, 0, [0]), (.if_icmp .ne 12, 0, [20]), (.getstatic 151, 9, [15, 81]), (.iload_n 2, 0, [2]), (.iaload, 0, []), (.iload_n 1, 0, [1]), (.if_icmp .eq 9, 0, [26]), (.nop, 0, [20])]
def s536_20 : List E := [(.iinc 2 1, 1, [2]), (.goto (-21), 0, [2])]
def s536_26 : List E := [(.iload_n 2, 0, [2]), (.ireturn, 0, [])]
def cd536 : List (Nat × List E) := [(0, s536_0), (2, s536_2), (20, s536_20), (26, s536_26)]
theorem l536_0 : lkc cd536 0 = s536_0 := rfl
theorem l536_2 : lkc cd536 2 = s536_2 := rfl
theorem l536_20 : lkc cd536 20 = s536_20 := rfl
theorem l536_26 : lkc cd536 26 = s536_26 := rfl
theorem k536 : chkM 536 6 true cd536 = true := by decide +kernel
/- Maker.distanceSymbol(II)I -/
def s537_0 : List E := [(.iload_n 0, 0, [0]), (.iload_n 1, 0, [1]), (.if_icmp .ne 5, 0, [7]), (.iconst 0, 0, []), (.ireturn, 0, [])]
def s537_7 : List E := [(.iload_n 0, 0, [0]), (.invokestatic 172, 0, [538, 8, 0, 0, 0]), (.istore_n 2, 0, [2]), (.bipush 16, 16, []), (.iconst 2, 2, []), (.iload_n 2, 0, [2]), (.iconst 1, 1, []), (.isub, 0, []), (.imul, 0, []), (.iadd, 0, []), (.iload_n 0, 0, [0]), (.iconst 3, 3, []), (.iadd, 0, []), (.iload_n 2, 0, [2]), (.ishr, 0, []), (.iconst 1, 1, []), (.iand, 0, []), (.iadd, 0, []), (.ireturn, 0, [])]
def cd537 : List (Nat × List E) := [(0, s537_0), (7, s537_7)]
theorem l537_0 : lkc cd537 0 = s537_0 := rfl
theorem l537_7 : lkc cd537 7 = s537_7 := rfl
theorem k537 : chkM 537 6 true cd537 = true := by decide +kernel
/- Maker.distanceBits(I)I -/
def s538_0 : List E := [(.bipush 30, 30, []), (.iload_n 0, 0, [0]), (.iconst 3, 3, []), (.iadd, 0, []), (.invokestatic 167, 0, [31, 8, 0, 0, 0]), (.isub, 0, []), (.ireturn, 0, [])]
def cd538 : List (Nat × List E) := [(0, s538_0)]
theorem l538_0 : lkc cd538 0 = s538_0 := rfl
theorem k538 : chkM 538 6 true cd538 = true := by decide +kernel
/- Maker.tellMap()V -/
def s539_0 : List E := [(.aload_n 0, 0, [0]), (.getfield 12, 1, [6, 0, 15, 1]), (.iconst 1, 1, []), (.iconst 1, 1, []), (.invokevirtual 92, 0, [553, 7, 15, 99, 0, 100, 0, 0]), (.aload_n 0, 0, [0]), (.getfield 12, 1, [6, 0, 15, 1]), (.iconst 1, 1, []), (.iconst 3, 3, []), (.invokevirtual 92, 0, [553, 7, 15, 99, 0, 100, 0, 0]), (.aload_n 0, 0, [0]), (.getfield 12, 1, [6, 0, 15, 1]), (.iconst 1, 1, []), (.iconst 1, 1, []), (.invokevirtual 92, 0, [553, 7, 15, 99, 0, 100, 0, 0]), (.aload_n 0, 0, [0]), (.getfield 12, 1, [6, 0, 15, 1]), (.iconst 0, 0, []), (.iconst 1, 1, []), (.invokevirtual 92, 0, [553, 7, 15, 99, 0, 100, 0, 0]), (.iconst 0, 0, []), (.istore_n 1, 0, [1]), (.nop, 0, [38])]
def s539_38 : List E := [(.iload_n 1, 0, [1]), (.iconst 4, 4, []), (.if_icmp .ge 20, 0, [60]), (.aload_n 0, 0, [0]), (.getfield 41, 29, [6, 7, 17, 1]), (.getfield 188, 1, [8, 0, 81, 1]), (.iload_n 1, 0, [1]), (.bipush 16, 16, []), (.iastore, 0, []), (.iinc 1 1, 1, [1]), (.goto (-19), 0, [38])]
def s539_60 : List E := [(.aload_n 0, 0, [0]), (.aload_n 0, 0, [0]), (.getfield 41, 29, [6, 7, 17, 1]), (.invokevirtual 201, 0, [540, 6, 13, 8, 0, 100, 14]), (.iconst 0, 0, []), (.istore_n 1, 0, [1]), (.nop, 0, [70])]
def s539_70 : List E := [(.iload_n 1, 0, [1]), (.bipush 64, 64, []), (.if_icmp .ge 24, 0, [97]), (.aload_n 0, 0, [0]), (.getfield 41, 29, [6, 7, 17, 1]), (.aload_n 0, 0, [0]), (.getfield 12, 1, [6, 0, 15, 1]), (.iload_n 1, 0, [1]), (.bipush 16, 16, []), (.idiv, 0, []), (.invokevirtual 209, 0, [558, 8, 17, 54, 0, 100, 0, 13]), (.iinc 1 1, 1, [1]), (.goto (-24), 0, [70])]
def s539_97 : List E := [(.aload_n 0, 0, [0]), (.getfield 12, 1, [6, 0, 15, 1]), (.iconst 0, 0, []), (.iconst 1, 1, []), (.invokevirtual 92, 0, [553, 7, 15, 99, 0, 100, 0, 0]), (.return_, 0, [])]
def cd539 : List (Nat × List E) := [(0, s539_0), (38, s539_38), (60, s539_60), (70, s539_70), (97, s539_97)]
theorem l539_0 : lkc cd539 0 = s539_0 := rfl
theorem l539_38 : lkc cd539 38 = s539_38 := rfl
theorem l539_60 : lkc cd539 60 = s539_60 := rfl
theorem l539_70 : lkc cd539 70 = s539_70 := rfl
theorem l539_97 : lkc cd539 97 = s539_97 := rfl
theorem k539 : chkM 539 6 true cd539 = true := by decide +kernel
/- Maker.tell(LFontHouse$Made;)V -/
def s540_0 : List E := [(.aload_n 0, 0, [0]), (.aload_n 1, 0, [1]), (.bipush 15, 15, []), (.invokevirtual 246, 0, [541, 6, 13, 37, 0, 100, 0, 14]), (.aload_n 1, 0, [1]), (.getfield 226, 0, [8, 4, 0]), (.iconst 4, 4, []), (.if_icmp .gt 11, 0, [23]), (.aload_n 0, 0, [0]), (.aload_n 1, 0, [1]), (.invokevirtual 250, 0, [544, 6, 13, 52, 0, 100, 14]), (.goto 8, 0, [28])]
def s540_23 : List E := [(.aload_n 0, 0, [0]), (.aload_n 1, 0, [1]), (.invokevirtual 253, 0, [545, 6, 13, 8, 0, 100, 14]), (.nop, 0, [28])]
def s540_28 : List E := [(.return_, 0, [])]
def cd540 : List (Nat × List E) := [(0, s540_0), (23, s540_23), (28, s540_28)]
theorem l540_0 : lkc cd540 0 = s540_0 := rfl
theorem l540_23 : lkc cd540 23 = s540_23 := rfl
theorem l540_28 : lkc cd540 28 = s540_28 := rfl
theorem k540 : chkM 540 6 true cd540 = true := by decide +kernel
/- Maker.reckon(LFontHouse$Made;I)V -/
def s541_0 : List E := [(.aload_n 1, 0, [1]), (.getfield 188, 1, [8, 0, 81, 1]), (.iconst 0, 0, []), (.aload_n 0, 0, [0]), (.getfield 71, 45, [6, 19, 81, 1]), (.iconst 0, 0, []), (.aload_n 1, 0, [1]), (.getfield 222, 0, [8, 3, 0]), (.invokestatic 233, 0, [40, 0]), (.nop, 0, [17])]
def s541_17 : List E := [(.aload_n 0, 0, [0]), (.aload_n 1, 0, [1]), (.iload_n 2, 0, [2]), (.invokevirtual 239, 0, [542, 6, 13, 15, 0, 3, 0, 14]), (.ifCond .ne 38, 0, [61]), (.iconst 0, 0, []), (.istore_n 3, 0, [3]), (.nop, 0, [28])]
def s541_28 : List E := [(.iload_n 3, 0, [3]), (.aload_n 1, 0, [1]), (.getfield 222, 0, [8, 3, 0]), (.if_icmp .ge 25, 0, [58]), (.aload_n 0, 0, [0]), (.getfield 71, 45, [6, 19, 81, 1]), (.iload_n 3, 0, [3]), (.aload_n 0, 0, [0]), (.getfield 71, 45, [6, 19, 81, 1]), (.iload_n 3, 0, [3]), (.iaload, 0, []), (.iconst 1, 1, []), (.iadd, 0, []), (.iconst 1, 1, []), (.ishr, 0, []), (.iastore, 0, []), (.iinc 3 1, 1, [3]), (.goto (-27), 0, [28])]
def s541_58 : List E := [(.goto (-41), 0, [17])]
def s541_61 : List E := [(.iconst 0, 0, []), (.istore_n 3, 0, [3]), (.iconst 1, 1, []), (.istore 4, 0, [4]), (.nop, 0, [66])]
def s541_66 : List E := [(.iload 4, 0, [4]), (.iload_n 2, 0, [2]), (.if_icmp .gt 54, 0, [123]), (.iload_n 3, 0, [3]), (.iconst 1, 1, []), (.ishl, 0, []), (.istore_n 3, 0, [3]), (.iconst 0, 0, []), (.istore 5, 0, [5]), (.nop, 0, [79])]
def s541_79 : List E := [(.iload 5, 0, [5]), (.aload_n 1, 0, [1]), (.getfield 222, 0, [8, 3, 0]), (.if_icmp .ge 32, 0, [117]), (.aload_n 1, 0, [1]), (.getfield 223, 2, [8, 1, 81, 1]), (.iload 5, 0, [5]), (.iaload, 0, []), (.iload 4, 0, [4]), (.if_icmp .ne 14, 0, [111]), (.aload_n 1, 0, [1]), (.getfield 243, 3, [8, 2, 81, 1]), (.iload 5, 0, [5]), (.iload_n 3, 0, [3]), (.iinc 3 1, 1, [3]), (.iastore, 0, []), (.nop, 0, [111])]
def s541_111 : List E := [(.iinc 5 1, 1, [5]), (.goto (-35), 0, [79])]
def s541_117 : List E := [(.iinc 4 1, 1, [4]), (.goto (-54), 0, [66])]
def s541_123 : List E := [(.return_, 0, [])]
def cd541 : List (Nat × List E) := [(0, s541_0), (17, s541_17), (28, s541_28), (58, s541_58), (61, s541_61), (66, s541_66), (79, s541_79), (111, s541_111), (117, s541_117), (123, s541_123)]
theorem l541_0 : lkc cd541 0 = s541_0 := rfl
theorem l541_17 : lkc cd541 17 = s541_17 := rfl
theorem l541_28 : lkc cd541 28 = s541_28 := rfl
theorem l541_58 : lkc cd541 58 = s541_58 := rfl
theorem l541_61 : lkc cd541 61 = s541_61 := rfl
theorem l541_66 : lkc cd541 66 = s541_66 := rfl
theorem l541_79 : lkc cd541 79 = s541_79 := rfl
theorem l541_111 : lkc cd541 111 = s541_111 := rfl
theorem l541_117 : lkc cd541 117 = s541_117 := rfl
theorem l541_123 : lkc cd541 123 = s541_123 := rfl
theorem k541 : chkM 541 6 true cd541 = true := by decide +kernel
/- Maker.join(LFontHouse$Made;I)Z -/
def s542_0 : List E := [(.iconst 0, 0, []), (.istore_n 3, 0, [3]), (.iconst 0, 0, []), (.istore 4, 0, [4]), (.nop, 0, [5])]
def s542_5 : List E := [(.iload 4, 0, [4]), (.aload_n 1, 0, [1]), (.getfield 222, 0, [8, 3, 0]), (.if_icmp .ge 38, 0, [49]), (.aload_n 1, 0, [1]), (.getfield 223, 2, [8, 1, 81, 1]), (.iload 4, 0, [4]), (.iconst 0, 0, []), (.iastore, 0, []), (.aload_n 0, 0, [0]), (.getfield 71, 45, [6, 19, 81, 1]), (.iload 4, 0, [4]), (.iaload, 0, []), (.ifCond .le 14, 0, [43]), (.aload_n 0, 0, [0]), (.getfield 62, 42, [6, 16, 81, 1]), (.iload_n 3, 0, [3]), (.iinc 3 1, 1, [3]), (.iload 4, 0, [4]), (.iastore, 0, []), (.nop, 0, [43])]
def s542_43 : List E := [(.iinc 4 1, 1, [4]), (.goto (-41), 0, [5])]
def s542_49 : List E := [(.aload_n 1, 0, [1]), (.iload_n 3, 0, [3]), (.putfield 226, 0, [8, 4, 0]), (.iload_n 3, 0, [3]), (.iconst 2, 2, []), (.if_icmp .ge 5, 0, [61]), (.iconst 1, 1, []), (.ireturn, 0, [1])]
def s542_61 : List E := [(.aload_n 0, 0, [0]), (.aload_n 0, 0, [0]), (.getfield 71, 45, [6, 19, 81, 1]), (.iload_n 3, 0, [3]), (.invokevirtual 229, 0, [543, 6, 13, 8, 0, 100, 0, 46]), (.iconst 0, 0, []), (.istore 4, 0, [4]), (.iload_n 3, 0, [3]), (.istore 5, 0, [5]), (.iload_n 3, 0, [3]), (.istore 6, 0, [6]), (.nop, 0, [79])]
def s542_79 : List E := [(.iload 6, 0, [6]), (.iconst 2, 2, []), (.iload_n 3, 0, [3]), (.imul, 0, []), (.iconst 1, 1, []), (.isub, 0, []), (.if_icmp .ge 136, 0, [222]), (.aload_n 0, 0, [0]), (.getfield 65, 43, [6, 17, 81, 1]), (.iload 6, 0, [6]), (.iconst 0, 0, []), (.iastore, 0, []), (.iconst 0, 0, []), (.istore 7, 0, [7]), (.nop, 0, [100])]
def s542_100 : List E := [(.iload 7, 0, [7]), (.iconst 2, 2, []), (.if_icmp .ge 113, 0, [216]), (.iload 4, 0, [4]), (.iload_n 3, 0, [3]), (.if_icmp .ge 36, 0, [145]), (.iload 5, 0, [5]), (.iload 6, 0, [6]), (.if_icmp .eq 25, 0, [141]), (.aload_n 0, 0, [0]), (.getfield 71, 45, [6, 19, 81, 1]), (.aload_n 0, 0, [0]), (.getfield 62, 42, [6, 16, 81, 1]), (.iload 4, 0, [4]), (.iaload, 0, []), (.iaload, 0, []), (.aload_n 0, 0, [0]), (.getfield 65, 43, [6, 17, 81, 1]), (.iload 5, 0, [5]), (.iaload, 0, []), (.if_icmp .gt 7, 0, [145]), (.nop, 0, [141])]
def s542_141 : List E := [(.iconst 1, 1, []), (.goto 4, 0, [146])]
def s542_145 : List E := [(.iconst 0, 0, []), (.nop, 0, [146])]
def s542_146 : List E := [(.istore 8, 0, [8]), (.aload_n 0, 0, [0]), (.getfield 65, 43, [6, 17, 81, 1]), (.iload 6, 0, [6]), (.dup2, 0, []), (.iaload, 0, []), (.iload 8, 0, [8]), (.ifCond .eq 18, 0, [176]), (.aload_n 0, 0, [0]), (.getfield 71, 45, [6, 19, 81, 1]), (.aload_n 0, 0, [0]), (.getfield 62, 42, [6, 16, 81, 1]), (.iload 4, 0, [4]), (.iaload, 0, []), (.iaload, 0, []), (.goto 10, 0, [183])]
def s542_176 : List E := [(.aload_n 0, 0, [0]), (.getfield 65, 43, [6, 17, 81, 1]), (.iload 5, 0, [5]), (.iaload, 0, []), (.nop, 0, [183])]
def s542_183 : List E := [(.iadd, 0, []), (.iastore, 0, []), (.aload_n 0, 0, [0]), (.getfield 68, 44, [6, 18, 81, 1]), (.iload 8, 0, [8]), (.ifCond .eq 11, 0, [202]), (.iload 4, 0, [4]), (.iinc 4 1, 1, [4]), (.goto 8, 0, [207])]
def s542_202 : List E := [(.iload 5, 0, [5]), (.iinc 5 1, 1, [5]), (.nop, 0, [207])]
def s542_207 : List E := [(.iload 6, 0, [6]), (.iastore, 0, []), (.iinc 7 1, 1, [7]), (.goto (-113), 0, [100])]
def s542_216 : List E := [(.iinc 6 1, 1, [6]), (.goto (-140), 0, [79])]
def s542_222 : List E := [(.iconst 1, 1, []), (.istore 7, 0, [7]), (.aload_n 0, 0, [0]), (.getfield 65, 43, [6, 17, 81, 1]), (.iload 6, 0, [6]), (.iconst 1, 1, []), (.isub, 0, []), (.iconst 0, 0, []), (.iastore, 0, []), (.iload 6, 0, [6]), (.iconst 2, 2, []), (.isub, 0, []), (.istore 8, 0, [8]), (.nop, 0, [241])]
def s542_241 : List E := [(.iload 8, 0, [8]), (.ifCond .lt 79, 0, [322]), (.aload_n 0, 0, [0]), (.getfield 65, 43, [6, 17, 81, 1]), (.iload 8, 0, [8]), (.aload_n 0, 0, [0]), (.getfield 65, 43, [6, 17, 81, 1]), (.aload_n 0, 0, [0]), (.getfield 68, 44, [6, 18, 81, 1]), (.iload 8, 0, [8]), (.iaload, 0, []), (.iaload, 0, []), (.iconst 1, 1, []), (.iadd, 0, []), (.iastore, 0, []), (.iload 8, 0, [8]), (.iload_n 3, 0, [3]), (.if_icmp .lt 6, 0, [276]), (.goto 43, 0, [316])]
def s542_276 : List E := [(.aload_n 1, 0, [1]), (.getfield 223, 2, [8, 1, 81, 1]), (.aload_n 0, 0, [0]), (.getfield 62, 42, [6, 16, 81, 1]), (.iload 8, 0, [8]), (.iaload, 0, []), (.aload_n 0, 0, [0]), (.getfield 65, 43, [6, 17, 81, 1]), (.iload 8, 0, [8]), (.iaload, 0, []), (.iastore, 0, []), (.iload 7, 0, [7]), (.aload_n 0, 0, [0]), (.getfield 65, 43, [6, 17, 81, 1]), (.iload 8, 0, [8]), (.iaload, 0, []), (.iload_n 2, 0, [2]), (.if_icmp .gt 7, 0, [312]), (.iconst 1, 1, []), (.goto 4, 0, [313])]
def s542_312 : List E := [(.iconst 0, 0, []), (.nop, 0, [313])]
def s542_313 : List E := [(.iand, 0, []), (.istore 7, 0, [7]), (.nop, 0, [316])]
def s542_316 : List E := [(.iinc 8 (-1), -1, [8]), (.goto (-78), 0, [241])]
def s542_322 : List E := [(.iload 7, 0, [7]), (.ireturn, 0, [1])]
def cd542 : List (Nat × List E) := [(0, s542_0), (5, s542_5), (43, s542_43), (49, s542_49), (61, s542_61), (79, s542_79), (100, s542_100), (141, s542_141), (145, s542_145), (146, s542_146), (176, s542_176), (183, s542_183), (202, s542_202), (207, s542_207), (216, s542_216), (222, s542_222), (241, s542_241), (276, s542_276), (312, s542_312), (313, s542_313), (316, s542_316), (322, s542_322)]
theorem l542_0 : lkc cd542 0 = s542_0 := rfl
theorem l542_5 : lkc cd542 5 = s542_5 := rfl
theorem l542_43 : lkc cd542 43 = s542_43 := rfl
theorem l542_49 : lkc cd542 49 = s542_49 := rfl
theorem l542_61 : lkc cd542 61 = s542_61 := rfl
theorem l542_79 : lkc cd542 79 = s542_79 := rfl
theorem l542_100 : lkc cd542 100 = s542_100 := rfl
theorem l542_141 : lkc cd542 141 = s542_141 := rfl
theorem l542_145 : lkc cd542 145 = s542_145 := rfl
theorem l542_146 : lkc cd542 146 = s542_146 := rfl
theorem l542_176 : lkc cd542 176 = s542_176 := rfl
theorem l542_183 : lkc cd542 183 = s542_183 := rfl
theorem l542_202 : lkc cd542 202 = s542_202 := rfl
theorem l542_207 : lkc cd542 207 = s542_207 := rfl
theorem l542_216 : lkc cd542 216 = s542_216 := rfl
theorem l542_222 : lkc cd542 222 = s542_222 := rfl
theorem l542_241 : lkc cd542 241 = s542_241 := rfl
theorem l542_276 : lkc cd542 276 = s542_276 := rfl
theorem l542_312 : lkc cd542 312 = s542_312 := rfl
theorem l542_313 : lkc cd542 313 = s542_313 := rfl
theorem l542_316 : lkc cd542 316 = s542_316 := rfl
theorem l542_322 : lkc cd542 322 = s542_322 := rfl
theorem k542 : chkM 542 6 true cd542 = true := by decide +kernel
/- Maker.sortLeaves([II)V -/
def s543_0 : List E := [(.iconst 1, 1, []), (.istore_n 3, 0, [3]), (.nop, 0, [2])]
def s543_2 : List E := [(.iload_n 3, 0, [3]), (.iload_n 2, 0, [2]), (.if_icmp .ge 74, 0, [78]), (.aload_n 0, 0, [0]), (.getfield 62, 42, [6, 16, 81, 1]), (.iload_n 3, 0, [3]), (.iaload, 0, []), (.istore 4, 0, [4]), (.iload_n 3, 0, [3]), (.istore 5, 0, [5]), (.nop, 0, [18])]
def s543_18 : List E := [(.iload 5, 0, [5]), (.ifCond .le 43, 0, [63]), (.aload_n 1, 0, [1]), (.aload_n 0, 0, [0]), (.getfield 62, 42, [6, 16, 81, 1]), (.iload 5, 0, [5]), (.iconst 1, 1, []), (.isub, 0, []), (.iaload, 0, []), (.iaload, 0, []), (.aload_n 1, 0, [1]), (.iload 4, 0, [4]), (.iaload, 0, []), (.if_icmp .le 25, 0, [63]), (.aload_n 0, 0, [0]), (.getfield 62, 42, [6, 16, 81, 1]), (.iload 5, 0, [5]), (.aload_n 0, 0, [0]), (.getfield 62, 42, [6, 16, 81, 1]), (.iload 5, 0, [5]), (.iconst 1, 1, []), (.isub, 0, []), (.iaload, 0, []), (.iastore, 0, []), (.iinc 5 (-1), -1, [5]), (.goto (-42), 0, [18])]
def s543_63 : List E := [(.aload_n 0, 0, [0]), (.getfield 62, 42, [6, 16, 81, 1]), (.iload 5, 0, [5]), (.iload 4, 0, [4]), (.iastore, 0, []), (.iinc 3 1, 1, [3]), (.goto (-73), 0, [2])]
def s543_78 : List E := [(.return_, 0, [])]
def cd543 : List (Nat × List E) := [(0, s543_0), (2, s543_2), (18, s543_18), (63, s543_63), (78, s543_78)]
theorem l543_0 : lkc cd543 0 = s543_0 := rfl
theorem l543_2 : lkc cd543 2 = s543_2 := rfl
theorem l543_18 : lkc cd543 18 = s543_18 := rfl
theorem l543_63 : lkc cd543 63 = s543_63 := rfl
theorem l543_78 : lkc cd543 78 = s543_78 := rfl
theorem k543 : chkM 543 6 true cd543 = true := by decide +kernel
/- Maker.tellFew(LFontHouse$Made;)V -/
def s544_0 : List E := [(.aload_n 0, 0, [0]), (.getfield 12, 1, [6, 0, 15, 1]), (.iconst 1, 1, []), (.iconst 2, 2, []), (.invokevirtual 92, 0, [553, 7, 15, 8, 0, 100, 0, 0]), (.iconst 1, 1, []), (.aload_n 1, 0, [1]), (.getfield 226, 0, [8, 4, 0]), (.invokestatic 256, 0, [1, 31, 0, 0, 0, 0]), (.istore_n 2, 0, [2]), (.aload_n 0, 0, [0]), (.getfield 12, 1, [6, 0, 15, 1]), (.iload_n 2, 0, [2]), (.iconst 1, 1, []), (.isub, 0, []), (.iconst 2, 2, []), (.invokevirtual 92, 0, [553, 7, 15, 8, 0, 100, 0, 0]), (.bipush 32, 32, []), (.aload_n 1, 0, [1]), (.getfield 222, 0, [8, 3, 0]), (.iconst 1, 1, []), (.isub, 0, []), (.invokestatic 167, 0, [31, 31, 0, 0, 0]), (.isub, 0, []), (.istore_n 3, 0, [3]), (.aload_n 1, 0, [1]), (.getfield 226, 0, [8, 4, 0]), (.iconst 2, 2, []), (.if_icmp .ge 28, 0, [75]), (.aload_n 0, 0, [0]), (.getfield 12, 1, [6, 0, 15, 1]), (.aload_n 1, 0, [1]), (.getfield 226, 0, [8, 4, 0]), (.ifCond .ne 7, 0, [65]), (.iconst 0, 0, []), (.goto 9, 0, [71])]
def s544_65 : List E := [(.aload_n 0, 0, [0]), (.getfield 62, 42, [6, 16, 81, 1]), (.iconst 0, 0, []), (.iaload, 0, []), (.nop, 0, [71])]
def s544_71 : List E := [(.iload_n 3, 0, [3]), (.invokevirtual 92, 0, [553, 7, 15, 8, 0, 100, 0, 0]), (.nop, 0, [75])]
def s544_75 : List E := [(.iconst 0, 0, []), (.istore 4, 0, [4]), (.iconst 1, 1, []), (.istore 5, 0, [5]), (.nop, 0, [81])]
def s544_81 : List E := [(.iload 5, 0, [5]), (.iconst 4, 4, []), (.if_icmp .ge 76, 0, [160]), (.aload_n 1, 0, [1]), (.getfield 226, 0, [8, 4, 0]), (.iconst 1, 1, []), (.if_icmp .le 68, 0, [160]), (.iconst 0, 0, []), (.istore 6, 0, [6]), (.nop, 0, [98])]
def s544_98 : List E := [(.iload 6, 0, [6]), (.aload_n 1, 0, [1]), (.getfield 222, 0, [8, 3, 0]), (.if_icmp .ge 50, 0, [154]), (.aload_n 1, 0, [1]), (.getfield 223, 2, [8, 1, 81, 1]), (.iload 6, 0, [6]), (.iaload, 0, []), (.iload 5, 0, [5]), (.if_icmp .eq 6, 0, [122]), (.goto 29, 0, [148])]
def s544_122 : List E := [(.aload_n 0, 0, [0]), (.getfield 12, 1, [6, 0, 15, 1]), (.iload 6, 0, [6]), (.iload_n 3, 0, [3]), (.invokevirtual 92, 0, [553, 7, 15, 8, 0, 100, 0, 0]), (.iload 4, 0, [4]), (.iload 5, 0, [5]), (.iconst 3, 3, []), (.if_icmp .ne 7, 0, [144]), (.iconst 1, 1, []), (.goto 4, 0, [145])]
def s544_144 : List E := [(.iconst 0, 0, []), (.nop, 0, [145])]
def s544_145 : List E := [(.ior, 0, []), (.istore 4, 0, [4]), (.nop, 0, [148])]
def s544_148 : List E := [(.iinc 6 1, 1, [6]), (.goto (-53), 0, [98])]
def s544_154 : List E := [(.iinc 5 1, 1, [5]), (.goto (-76), 0, [81])]
def s544_160 : List E := [(.iload_n 2, 0, [2]), (.iconst 4, 4, []), (.if_icmp .ne 21, 0, [183]), (.aload_n 0, 0, [0]), (.getfield 12, 1, [6, 0, 15, 1]), (.iload 4, 0, [4]), (.ifCond .eq 7, 0, [178]), (.iconst 1, 1, []), (.goto 4, 0, [179])]
def s544_178 : List E := [(.iconst 0, 0, []), (.nop, 0, [179])]
def s544_179 : List E := [(.iconst 1, 1, []), (.invokevirtual 92, 0, [553, 7, 15, 8, 0, 100, 0, 0]), (.nop, 0, [183])]
def s544_183 : List E := [(.return_, 0, [])]
def cd544 : List (Nat × List E) := [(0, s544_0), (65, s544_65), (71, s544_71), (75, s544_75), (81, s544_81), (98, s544_98), (122, s544_122), (144, s544_144), (145, s544_145), (148, s544_148), (154, s544_154), (160, s544_160), (178, s544_178), (179, s544_179), (183, s544_183)]
theorem l544_0 : lkc cd544 0 = s544_0 := rfl
theorem l544_65 : lkc cd544 65 = s544_65 := rfl
theorem l544_71 : lkc cd544 71 = s544_71 := rfl
theorem l544_75 : lkc cd544 75 = s544_75 := rfl
theorem l544_81 : lkc cd544 81 = s544_81 := rfl
theorem l544_98 : lkc cd544 98 = s544_98 := rfl
theorem l544_122 : lkc cd544 122 = s544_122 := rfl
theorem l544_144 : lkc cd544 144 = s544_144 := rfl
theorem l544_145 : lkc cd544 145 = s544_145 := rfl
theorem l544_148 : lkc cd544 148 = s544_148 := rfl
theorem l544_154 : lkc cd544 154 = s544_154 := rfl
theorem l544_160 : lkc cd544 160 = s544_160 := rfl
theorem l544_178 : lkc cd544 178 = s544_178 := rfl
theorem l544_179 : lkc cd544 179 = s544_179 := rfl
theorem l544_183 : lkc cd544 183 = s544_183 := rfl
theorem k544 : chkM 544 6 true cd544 = true := by decide +kernel
/- Maker.tellMany(LFontHouse$Made;)V -/
def s545_0 : List E := [(.aload_n 0, 0, [0]), (.iconst 0, 0, []), (.putfield 259, 0, [6, 10, 0]), (.aload_n 0, 0, [0]), (.getfield 44, 33, [6, 8, 17, 1]), (.invokevirtual 181, 0, [557, 8, 17, 76, 0, 100]), (.aload_n 1, 0, [1]), (.getfield 222, 0, [8, 3, 0]), (.istore_n 2, 0, [2]), (.nop, 0, [17])]
def s545_17 : List E := [(.aload_n 1, 0, [1]), (.getfield 223, 2, [8, 1, 81, 1]), (.iload_n 2, 0, [2]), (.iconst 1, 1, []), (.isub, 0, []), (.iaload, 0, []), (.ifCond .ne 9, 0, [34]), (.iinc 2 (-1), -1, [2]), (.goto (-14), 0, [17])]
def s545_34 : List E := [(.iconst 0, 0, []), (.istore_n 3, 0, [3]), (.nop, 0, [36])]
def s545_36 : List E := [(.iload_n 3, 0, [3]), (.iload_n 2, 0, [2]), (.if_icmp .ge 60, 0, [98]), (.iconst 0, 0, []), (.istore 4, 0, [4]), (.nop, 0, [44])]
def s545_44 : List E := [(.aload_n 1, 0, [1]), (.getfield 223, 2, [8, 1, 81, 1]), (.iload_n 3, 0, [3]), (.iload 4, 0, [4]), (.iadd, 0, []), (.iaload, 0, []), (.ifCond .ne 9, 0, [62]), (.iinc 4 1, 1, [4]), (.goto (-15), 0, [44])]
def s545_62 : List E := [(.iload 4, 0, [4]), (.iconst 3, 3, []), (.if_icmp .lt 17, 0, [82]), (.aload_n 0, 0, [0]), (.iload 4, 0, [4]), (.invokevirtual 262, 0, [546, 6, 13, 73, 0, 100, 0]), (.iload_n 3, 0, [3]), (.iload 4, 0, [4]), (.iadd, 0, []), (.istore_n 3, 0, [3]), (.goto 16, 0, [95])]
def s545_82 : List E := [(.aload_n 0, 0, [0]), (.aload_n 1, 0, [1]), (.getfield 223, 2, [8, 1, 81, 1]), (.iload_n 3, 0, [3]), (.iinc 3 1, 1, [3]), (.iaload, 0, []), (.invokevirtual 265, 0, [547, 6, 13, 76, 0, 100, 0]), (.nop, 0, [95])]
def s545_95 : List E := [(.goto (-59), 0, [36])]
def s545_98 : List E := [(.aload_n 0, 0, [0]), (.aload_n 0, 0, [0]), (.getfield 44, 33, [6, 8, 17, 1]), (.iconst 5, 5, []), (.invokevirtual 246, 0, [541, 6, 13, 12, 0, 100, 0, 14]), (.aload_n 0, 0, [0]), (.getfield 44, 33, [6, 8, 17, 1]), (.getfield 226, 0, [8, 4, 0]), (.iconst 1, 1, []), (.if_icmp .ne 18, 0, [133]), (.aload_n 0, 0, [0]), (.getfield 44, 33, [6, 8, 17, 1]), (.getfield 223, 2, [8, 1, 81, 1]), (.aload_n 0, 0, [0]), (.getfield 62, 42, [6, 16, 81, 1]), (.iconst 0, 0, []), (.iaload, 0, []), (.iconst 1, 1, []), (.iastore, 0, []), (.nop, 0, [133])]
def s545_133 : List E := [(.aload_n 0, 0, [0]), (.getfield 12, 1, [6, 0, 15, 1]), (.iconst 0, 0, []), (.iconst 2, 2, []), (.invokevirtual 92, 0, [553, 7, 15, 53, 0, 100, 0, 0]), (.bipush 32, 32, []), (.istore_n 3, 0, [3]), (.iconst 0, 0, []), (.istore 4, 0, [4]), (.nop, 0, [148])]
def s545_148 : List E := [(.iload 4, 0, [4]), (.bipush 18, 18, []), (.if_icmp .ge 48, 0, [200]), (.iload_n 3, 0, [3]), (.ifCond .le 44, 0, [200]), (.aload_n 0, 0, [0]), (.getfield 44, 33, [6, 8, 17, 1]), (.getfield 223, 2, [8, 1, 81, 1]), (.getstatic 268, 1, [7, 81]), (.iload 4, 0, [4]), (.iaload, 0, []), (.iaload, 0, []), (.istore 5, 0, [5]), (.aload_n 0, 0, [0]), (.iload 5, 0, [5]), (.invokevirtual 271, 0, [548, 6, 13, 32, 0, 100, 0]), (.iload 5, 0, [5]), (.ifCond .le 11, 0, [194]), (.iload_n 3, 0, [3]), (.bipush 32, 32, []), (.iload 5, 0, [5]), (.ishr, 0, []), (.isub, 0, []), (.istore_n 3, 0, [3]), (.nop, 0, [194])]
def s545_194 : List E := [(.iinc 4 1, 1, [4]), (.goto (-49), 0, [148])]
def s545_200 : List E := [(.iconst 0, 0, []), (.istore 4, 0, [4]), (.nop, 0, [203])]
def s545_203 : List E := [(.iload 4, 0, [4]), (.aload_n 0, 0, [0]), (.getfield 259, 0, [6, 10, 0]), (.if_icmp .ge 69, 0, [278]), (.aload_n 0, 0, [0]), (.getfield 47, 37, [6, 9, 81, 1]), (.iload 4, 0, [4]), (.iaload, 0, []), (.bipush 31, 31, []), (.iand, 0, []), (.istore 5, 0, [5]), (.aload_n 0, 0, [0]), (.getfield 44, 33, [6, 8, 17, 1]), (.getfield 226, 0, [8, 4, 0]), (.iconst 1, 1, []), (.if_icmp .le 16, 0, [248]), (.aload_n 0, 0, [0]), (.getfield 44, 33, [6, 8, 17, 1]), (.aload_n 0, 0, [0]), (.getfield 12, 1, [6, 0, 15, 1]), (.iload 5, 0, [5]), (.invokevirtual 209, 0, [558, 8, 17, 8, 0, 100, 0, 13]), (.nop, 0, [248])]
def s545_248 : List E := [(.iload 5, 0, [5]), (.bipush 17, 17, []), (.if_icmp .ne 20, 0, [272]), (.aload_n 0, 0, [0]), (.getfield 12, 1, [6, 0, 15, 1]), (.aload_n 0, 0, [0]), (.getfield 47, 37, [6, 9, 81, 1]), (.iload 4, 0, [4]), (.iaload, 0, []), (.iconst 5, 5, []), (.ishr, 0, []), (.iconst 3, 3, []), (.invokevirtual 92, 0, [553, 7, 15, 53, 0, 100, 0, 0]), (.nop, 0, [272])]
def s545_272 : List E := [(.iinc 4 1, 1, [4]), (.goto (-72), 0, [203])]
def s545_278 : List E := [(.return_, 0, [])]
def cd545 : List (Nat × List E) := [(0, s545_0), (17, s545_17), (34, s545_34), (36, s545_36), (44, s545_44), (62, s545_62), (82, s545_82), (95, s545_95), (98, s545_98), (133, s545_133), (148, s545_148), (194, s545_194), (200, s545_200), (203, s545_203), (248, s545_248), (272, s545_272), (278, s545_278)]
theorem l545_0 : lkc cd545 0 = s545_0 := rfl
theorem l545_17 : lkc cd545 17 = s545_17 := rfl
theorem l545_34 : lkc cd545 34 = s545_34 := rfl
theorem l545_36 : lkc cd545 36 = s545_36 := rfl
theorem l545_44 : lkc cd545 44 = s545_44 := rfl
theorem l545_62 : lkc cd545 62 = s545_62 := rfl
theorem l545_82 : lkc cd545 82 = s545_82 := rfl
theorem l545_95 : lkc cd545 95 = s545_95 := rfl
theorem l545_98 : lkc cd545 98 = s545_98 := rfl
theorem l545_133 : lkc cd545 133 = s545_133 := rfl
theorem l545_148 : lkc cd545 148 = s545_148 := rfl
theorem l545_194 : lkc cd545 194 = s545_194 := rfl
theorem l545_200 : lkc cd545 200 = s545_200 := rfl
theorem l545_203 : lkc cd545 203 = s545_203 := rfl
theorem l545_248 : lkc cd545 248 = s545_248 := rfl
theorem l545_272 : lkc cd545 272 = s545_272 := rfl
theorem l545_278 : lkc cd545 278 = s545_278 := rfl
theorem k545 : chkM 545 6 true cd545 = true := by decide +kernel
/- Maker.addRun(I)V -/
def s546_0 : List E := [(.iconst 1, 1, []), (.istore_n 2, 0, [2]), (.iload_n 1, 0, [1]), (.istore_n 3, 0, [3]), (.nop, 0, [4])]
def s546_4 : List E := [(.iload_n 3, 0, [3]), (.bipush 10, 10, []), (.if_icmp .le 18, 0, [25]), (.iinc 2 1, 1, [2]), (.iload_n 3, 0, [3]), (.iconst 3, 3, []), (.isub, 0, []), (.bipush 8, 8, []), (.idiv, 0, []), (.iconst 2, 2, []), (.iadd, 0, []), (.istore_n 3, 0, [3]), (.goto (-18), 0, [4])]
def s546_25 : List E := [(.iload_n 1, 0, [1]), (.istore_n 3, 0, [3]), (.iload_n 2, 0, [2]), (.iconst 1, 1, []), (.isub, 0, []), (.istore 4, 0, [4]), (.nop, 0, [32])]
def s546_32 : List E := [(.iload 4, 0, [4]), (.ifCond .lt 41, 0, [75]), (.aload_n 0, 0, [0]), (.getfield 47, 37, [6, 9, 81, 1]), (.aload_n 0, 0, [0]), (.getfield 259, 0, [6, 10, 0]), (.iload 4, 0, [4]), (.iadd, 0, []), (.bipush 17, 17, []), (.iload_n 3, 0, [3]), (.iconst 3, 3, []), (.isub, 0, []), (.bipush 8, 8, []), (.irem, 0, []), (.iconst 5, 5, []), (.ishl, 0, []), (.ior, 0, []), (.iastore, 0, []), (.iload_n 3, 0, [3]), (.iconst 3, 3, []), (.isub, 0, []), (.bipush 8, 8, []), (.idiv, 0, []), (.iconst 2, 2, []), (.iadd, 0, []), (.istore_n 3, 0, [3]), (.iinc 4 (-1), -1, [4]), (.goto (-40), 0, [32])]
def s546_75 : List E := [(.aload_n 0, 0, [0]), (.dup, 0, []), (.getfield 259, 0, [6, 10, 0]), (.iload_n 2, 0, [2]), (.iadd, 0, []), (.putfield 259, 0, [6, 10, 0]), (.aload_n 0, 0, [0]), (.getfield 44, 33, [6, 8, 17, 1]), (.getfield 188, 1, [8, 0, 81, 1]), (.bipush 17, 17, []), (.dup2, 0, []), (.iaload, 0, []), (.iload_n 2, 0, [2]), (.iadd, 0, []), (.iastore, 0, []), (.return_, 0, [])]
def cd546 : List (Nat × List E) := [(0, s546_0), (4, s546_4), (25, s546_25), (32, s546_32), (75, s546_75)]
theorem l546_0 : lkc cd546 0 = s546_0 := rfl
theorem l546_4 : lkc cd546 4 = s546_4 := rfl
theorem l546_25 : lkc cd546 25 = s546_25 := rfl
theorem l546_32 : lkc cd546 32 = s546_32 := rfl
theorem l546_75 : lkc cd546 75 = s546_75 := rfl
theorem k546 : chkM 546 6 true cd546 = true := by decide +kernel
/- Maker.put(I)V -/
def s547_0 : List E := [(.aload_n 0, 0, [0]), (.getfield 47, 37, [6, 9, 81, 1]), (.aload_n 0, 0, [0]), (.dup, 0, []), (.getfield 259, 0, [6, 10, 0]), (.dup_x1, 0, []), (.iconst 1, 1, []), (.iadd, 0, []), (.putfield 259, 0, [6, 10, 0]), (.iload_n 1, 0, [1]), (.iastore, 0, []), (.aload_n 0, 0, [0]), (.getfield 44, 33, [6, 8, 17, 1]), (.getfield 188, 1, [8, 0, 81, 1]), (.iload_n 1, 0, [1]), (.bipush 31, 31, []), (.iand, 0, []), (.dup2, 0, []), (.iaload, 0, []), (.iconst 1, 1, []), (.iadd, 0, []), (.iastore, 0, []), (.return_, 0, [])]
def cd547 : List (Nat × List E) := [(0, s547_0)]
theorem l547_0 : lkc cd547 0 = s547_0 := rfl
theorem k547 : chkM 547 6 true cd547 = true := by decide +kernel
/- Maker.tellShort(I)V -/
def s548_0 : List E := [(.iload_n 1, 0, [1]), (.tableswitch 96 0 4 #[35, 83, 71, 59, 47], 0, [97, 36, 84, 72, 60, 48])]
def s548_36 : List E := [(.aload_n 0, 0, [0]), (.getfield 12, 1, [6, 0, 15, 1]), (.iconst 0, 0, []), (.iconst 2, 2, []), (.invokevirtual 92, 0, [553, 7, 15, 8, 0, 100, 0, 0]), (.goto 62, 0, [107])]
def s548_48 : List E := [(.aload_n 0, 0, [0]), (.getfield 12, 1, [6, 0, 15, 1]), (.iconst 1, 1, []), (.iconst 2, 2, []), (.invokevirtual 92, 0, [553, 7, 15, 8, 0, 100, 0, 0]), (.goto 50, 0, [107])]
def s548_60 : List E := [(.aload_n 0, 0, [0]), (.getfield 12, 1, [6, 0, 15, 1]), (.iconst 2, 2, []), (.iconst 2, 2, []), (.invokevirtual 92, 0, [553, 7, 15, 8, 0, 100, 0, 0]), (.goto 38, 0, [107])]
def s548_72 : List E := [(.aload_n 0, 0, [0]), (.getfield 12, 1, [6, 0, 15, 1]), (.iconst 3, 3, []), (.iconst 3, 3, []), (.invokevirtual 92, 0, [553, 7, 15, 8, 0, 100, 0, 0]), (.goto 26, 0, [107])]
def s548_84 : List E := [(.aload_n 0, 0, [0]), (.getfield 12, 1, [6, 0, 15, 1]), (.bipush 7, 7, []), (.iconst 4, 4, []), (.invokevirtual 92, 0, [553, 7, 15, 8, 0, 100, 0, 0]), (.goto 13, 0, [107])]
def s548_97 : List E := [(.aload_n 0, 0, [0]), (.getfield 12, 1, [6, 0, 15, 1]), (.bipush 15, 15, []), (.iconst 4, 4, []), (.invokevirtual 92, 0, [553, 7, 15, 8, 0, 100, 0, 0]), (.nop, 0, [107])]
def s548_107 : List E := [(.return_, 0, [])]
def cd548 : List (Nat × List E) := [(0, s548_0), (36, s548_36), (48, s548_48), (60, s548_60), (72, s548_72), (84, s548_84), (97, s548_97), (107, s548_107)]
theorem l548_0 : lkc cd548 0 = s548_0 := rfl
theorem l548_36 : lkc cd548 36 = s548_36 := rfl
theorem l548_48 : lkc cd548 48 = s548_48 := rfl
theorem l548_60 : lkc cd548 60 = s548_60 := rfl
theorem l548_72 : lkc cd548 72 = s548_72 := rfl
theorem l548_84 : lkc cd548 84 = s548_84 := rfl
theorem l548_97 : lkc cd548 97 = s548_97 := rfl
theorem l548_107 : lkc cd548 107 = s548_107 := rfl
theorem k548 : chkM 548 6 true cd548 = true := by decide +kernel
/- Maker.writeCommands(IZI)V -/
def s549_0 : List E := [(.iload_n 3, 0, [3]), (.istore 4, 0, [4]), (.iload_n 1, 0, [1]), (.istore 5, 0, [5]), (.iconst 0, 0, []), (.istore 6, 0, [6]), (.nop, 0, [9])]
def s549_9 : List E := [(.iload 6, 0, [6]), (.aload_n 0, 0, [0]), (.getfield 137, 0, [6, 15, 0]), (.if_icmp .ge 242, 0, [257]), (.aload_n 0, 0, [0]), (.getfield 34, 21, [6, 5, 17, 1]), (.aload_n 0, 0, [0]), (.getfield 12, 1, [6, 0, 15, 1]), (.aload_n 0, 0, [0]), (.getfield 59, 41, [6, 14, 81, 1]), (.iload 6, 0, [6]), (.iaload, 0, []), (.invokevirtual 209, 0, [558, 8, 17, 162, 0, 100, 0, 13]), (.getstatic 154, 2, [8, 81]), (.aload_n 0, 0, [0]), (.getfield 50, 38, [6, 11, 81, 1]), (.iload 6, 0, [6]), (.iaload, 0, []), (.invokestatic 157, 0, [535, 229, 0, 0, 0, 46]), (.istore 7, 0, [7]), (.aload_n 0, 0, [0]), (.getfield 12, 1, [6, 0, 15, 1]), (.aload_n 0, 0, [0]), (.getfield 50, 38, [6, 11, 81, 1]), (.iload 6, 0, [6]), (.iaload, 0, []), (.getstatic 154, 2, [8, 81]), (.iload 7, 0, [7]), (.iaload, 0, []), (.isub, 0, []), (.getstatic 213, 3, [9, 81]), (.iload 7, 0, [7]), (.iaload, 0, []), (.invokevirtual 92, 0, [553, 7, 15, 207, 0, 100, 0, 0]), (.aload_n 0, 0, [0]), (.getfield 53, 39, [6, 12, 81, 1]), (.iload 6, 0, [6]), (.iaload, 0, []), (.ifCond .ne 7, 0, [92]), (.iconst 0, 0, []), (.goto 16, 0, [105])]
def s549_92 : List E := [(.getstatic 161, 4, [10, 81]), (.aload_n 0, 0, [0]), (.getfield 53, 39, [6, 12, 81, 1]), (.iload 6, 0, [6]), (.iaload, 0, []), (.invokestatic 157, 0, [535, 229, 0, 0, 0, 46]), (.nop, 0, [105])]
def s549_105 : List E := [(.istore 8, 0, [8]), (.aload_n 0, 0, [0]), (.getfield 53, 39, [6, 12, 81, 1]), (.iload 6, 0, [6]), (.iaload, 0, []), (.ifCond .le 30, 0, [144]), (.aload_n 0, 0, [0]), (.getfield 12, 1, [6, 0, 15, 1]), (.aload_n 0, 0, [0]), (.getfield 53, 39, [6, 12, 81, 1]), (.iload 6, 0, [6]), (.iaload, 0, []), (.getstatic 161, 4, [10, 81]), (.iload 8, 0, [8]), (.iaload, 0, []), (.isub, 0, []), (.getstatic 216, 5, [11, 81]), (.iload 8, 0, [8]), (.iaload, 0, []), (.invokevirtual 92, 0, [553, 7, 15, 207, 0, 100, 0, 0]), (.nop, 0, [144])]
def s549_144 : List E := [(.iconst 0, 0, []), (.istore 9, 0, [9]), (.nop, 0, [147])]
def s549_147 : List E := [(.iload 9, 0, [9]), (.aload_n 0, 0, [0]), (.getfield 50, 38, [6, 11, 81, 1]), (.iload 6, 0, [6]), (.iaload, 0, []), (.if_icmp .ge 35, 0, [191]), (.aload_n 0, 0, [0]), (.iload_n 2, 0, [2]), (.iload 5, 0, [5]), (.invokevirtual 184, 0, [533, 6, 13, 8, 0, 14, 0, 3]), (.aload_n 0, 0, [0]), (.getfield 12, 1, [6, 0, 15, 1]), (.aload_n 0, 0, [0]), (.getfield 84, 0, [6, 1, 7]), (.iload 5, 0, [5]), (.invokevirtual 134, 0, [114, 1, 3, 230, 0, 0, 0]), (.invokevirtual 209, 0, [558, 8, 17, 162, 0, 100, 0, 13]), (.iinc 5 1, 1, [5]), (.iinc 9 1, 1, [9]), (.goto (-41), 0, [147])]
def s549_191 : List E := [(.iload 5, 0, [5]), (.aload_n 0, 0, [0]), (.getfield 53, 39, [6, 12, 81, 1]), (.iload 6, 0, [6]), (.iaload, 0, []), (.iadd, 0, []), (.istore 5, 0, [5]), (.aload_n 0, 0, [0]), (.getfield 53, 39, [6, 12, 81, 1]), (.iload 6, 0, [6]), (.iaload, 0, []), (.ifCond .ne 6, 0, [216]), (.goto 38, 0, [251])]
def s549_216 : List E := [(.aload_n 0, 0, [0]), (.getfield 59, 41, [6, 14, 81, 1]), (.iload 6, 0, [6]), (.iaload, 0, []), (.sipush 128, 128, []), (.if_icmp .lt 16, 0, [242]), (.aload_n 0, 0, [0]), (.aload_n 0, 0, [0]), (.getfield 56, 40, [6, 13, 81, 1]), (.iload 6, 0, [6]), (.iaload, 0, []), (.iload 4, 0, [4]), (.invokevirtual 219, 0, [550, 6, 13, 139, 0, 100, 0, 0]), (.nop, 0, [242])]
def s549_242 : List E := [(.aload_n 0, 0, [0]), (.getfield 56, 40, [6, 13, 81, 1]), (.iload 6, 0, [6]), (.iaload, 0, []), (.istore 4, 0, [4]), (.nop, 0, [251])]
def s549_251 : List E := [(.iinc 6 1, 1, [6]), (.goto (-245), 0, [9])]
def s549_257 : List E := [(.return_, 0, [])]
def cd549 : List (Nat × List E) := [(0, s549_0), (9, s549_9), (92, s549_92), (105, s549_105), (144, s549_144), (147, s549_147), (191, s549_191), (216, s549_216), (242, s549_242), (251, s549_251), (257, s549_257)]
theorem l549_0 : lkc cd549 0 = s549_0 := rfl
theorem l549_9 : lkc cd549 9 = s549_9 := rfl
theorem l549_92 : lkc cd549 92 = s549_92 := rfl
theorem l549_105 : lkc cd549 105 = s549_105 := rfl
theorem l549_144 : lkc cd549 144 = s549_144 := rfl
theorem l549_147 : lkc cd549 147 = s549_147 := rfl
theorem l549_191 : lkc cd549 191 = s549_191 := rfl
theorem l549_216 : lkc cd549 216 = s549_216 := rfl
theorem l549_242 : lkc cd549 242 = s549_242 := rfl
theorem l549_251 : lkc cd549 251 = s549_251 := rfl
theorem l549_257 : lkc cd549 257 = s549_257 := rfl
theorem k549 : chkM 549 6 true cd549 = true := by decide +kernel
/- Maker.writeDistance(II)V -/
def s550_0 : List E := [(.iload_n 1, 0, [1]), (.iload_n 2, 0, [2]), (.invokestatic 195, 0, [537, 34, 0, 0, 0, 0]), (.istore_n 3, 0, [3]), (.aload_n 0, 0, [0]), (.getfield 38, 25, [6, 6, 17, 1]), (.aload_n 0, 0, [0]), (.getfield 12, 1, [6, 0, 15, 1]), (.iload_n 3, 0, [3]), (.invokevirtual 209, 0, [558, 8, 17, 8, 0, 100, 0, 13]), (.iload_n 3, 0, [3]), (.ifCond .le 17, 0, [36]), (.aload_n 0, 0, [0]), (.getfield 12, 1, [6, 0, 15, 1]), (.iload_n 1, 0, [1]), (.iconst 3, 3, []), (.iadd, 0, []), (.iload_n 1, 0, [1]), (.invokestatic 172, 0, [538, 56, 0, 0, 0]), (.invokevirtual 92, 0, [553, 7, 15, 53, 0, 100, 0, 0]), (.nop, 0, [36])]
def s550_36 : List E := [(.return_, 0, [])]
def cd550 : List (Nat × List E) := [(0, s550_0), (36, s550_36)]
theorem l550_0 : lkc cd550 0 = s550_0 := rfl
theorem l550_36 : lkc cd550 36 = s550_36 := rfl
theorem k550 : chkM 550 6 true cd550 = true := by decide +kernel
/- Reader.<init>(LFontHouse;)V -/
def s129_0 : List E := [(.aload_n 0, 0, [0]), (.aload_n 1, 0, [1]), (.putfield 3, 0, [9, 8, 6]), (.aload_n 0, 0, [0]), (.invokespecial 9, 0, [8]), (.aload_n 0, 0, [0]), (.iconst 4, 4, []), (.newarray .int, 0, [40, 81]), (.putfield 15, 0, [9, 2, 46]), (.aload_n 0, 0, [0]), (.iconst 4, 4, []), (.newarray .int, 0, [40, 81]), (.putfield 19, 0, [9, 3, 46]), (.aload_n 0, 0, [0]), (.bipush 64, 64, []), (.newarray .int, 0, [40, 81]), (.putfield 22, 0, [9, 5, 46]), (.aload_n 0, 0, [0]), (.bipush 64, 64, []), (.anewarray 25, 0, [45, 91]), (.putfield 27, 0, [9, 6, 51]), (.return_, 0, [])]
def cd129 : List (Nat × List E) := [(0, s129_0)]
theorem l129_0 : lkc cd129 0 = s129_0 := rfl
theorem k129 : chkM 129 9 false cd129 = true := by decide +kernel
/- Reader.read(LFontHouse$Bytes;Z)V -/
def s130_0 : List E := [(.aload_n 0, 0, [0]), (.aload_n 1, 0, [1]), (.putfield 31, 0, [9, 0, 7]), (.aload_n 0, 0, [0]), (.iload_n 2, 0, [2]), (.invokevirtual 141, 0, [131, 9, 19, 8, 0, 100, 3]), (.aload_n 0, 0, [0]), (.invokevirtual 145, 0, [134, 9, 19, 12, 0, 100]), (.iload_n 2, 0, [2]), (.ifCond .ne 7, 0, [22]), (.aload_n 0, 0, [0]), (.invokevirtual 148, 0, [141, 9, 19, 35, 0, 100]), (.nop, 0, [22])]
def s130_22 : List E := [(.return_, 0, [])]
def cd130 : List (Nat × List E) := [(0, s130_0), (22, s130_22)]
theorem l130_0 : lkc cd130 0 = s130_0 := rfl
theorem l130_22 : lkc cd130 22 = s130_22 := rfl
theorem k130 : chkM 130 9 true cd130 = true := by decide +kernel
/- Reader.parts(Z)V -/
def s131_0 : List E := [(.aload_n 0, 0, [0]), (.iconst 0, 0, []), (.putfield 65, 0, [9, 7, 0]), (.aload_n 0, 0, [0]), (.iconst 1, 1, []), (.putfield 101, 0, [9, 1, 0]), (.iload_n 1, 0, [1]), (.ifCond .ne 10, 0, [21]), (.aload_n 0, 0, [0]), (.iconst 0, 0, []), (.lconst 0, 0, []), (.invokevirtual 104, 0, [132, 9, 19, 8, 0, 100, 5, 0]), (.return_, 0, [])]
def s131_21 : List E := [(.aload_n 0, 0, [0]), (.ldc2_w 44, 12, []), (.invokevirtual 46, 0, [133, 9, 19, 34, 0, 100, 5]), (.aload_n 0, 0, [0]), (.getfield 31, 0, [9, 0, 7]), (.iconst 0, 0, []), (.invokevirtual 50, 0, [117, 1, 3, 77, 0, 0, 0]), (.ldc 108, 1953784678, []), (.if_icmp .eq 14, 0, [52]), (.new 39, 0, [17, 35, 8]), (.dup, 0, []), (.bipush 22, 22, []), (.iconst 0, 0, []), (.invokespecial 41, 0, [470, 17, 35, 56, 0, 100, 0, 0]), (.athrow, 0, [])]
def s131_52 : List E := [(.aload_n 0, 0, [0]), (.getfield 31, 0, [9, 0, 7]), (.iconst 4, 4, []), (.invokevirtual 50, 0, [117, 1, 3, 77, 0, 0, 0]), (.ldc 54, 65536, []), (.if_icmp .eq 14, 0, [76]), (.new 39, 0, [17, 35, 8]), (.dup, 0, []), (.bipush 22, 22, []), (.iconst 4, 4, []), (.invokespecial 41, 0, [470, 17, 35, 56, 0, 100, 0, 0]), (.athrow, 0, [])]
def s131_76 : List E := [(.aload_n 0, 0, [0]), (.getfield 31, 0, [9, 0, 7]), (.bipush 8, 8, []), (.invokevirtual 74, 0, [122, 1, 3, 56, 0, 5, 0]), (.lconst 1, 1, []), (.ldc2_w 109, 4, []), (.invokestatic 61, 0, [38, 115, 0, 3, 5, 5, 5]), (.ifCond .ne 15, 0, [107]), (.new 39, 0, [17, 35, 8]), (.dup, 0, []), (.bipush 23, 23, []), (.bipush 8, 8, []), (.invokespecial 41, 0, [470, 17, 35, 56, 0, 100, 0, 0]), (.athrow, 0, [])]
def s131_107 : List E := [(.aload_n 0, 0, [0]), (.aload_n 0, 0, [0]), (.getfield 31, 0, [9, 0, 7]), (.bipush 8, 8, []), (.invokevirtual 50, 0, [117, 1, 3, 77, 0, 0, 0]), (.putfield 101, 0, [9, 1, 0]), (.aload_n 0, 0, [0]), (.bipush 12, 12, []), (.iconst 4, 4, []), (.aload_n 0, 0, [0]), (.getfield 101, 0, [9, 1, 0]), (.imul, 0, []), (.iadd, 0, []), (.i2l, 0, []), (.invokevirtual 46, 0, [133, 9, 19, 34, 0, 100, 5]), (.iconst 0, 0, []), (.istore_n 2, 0, [2]), (.nop, 0, [136])]
def s131_136 : List E := [(.iload_n 2, 0, [2]), (.aload_n 0, 0, [0]), (.getfield 101, 0, [9, 1, 0]), (.if_icmp .ge 27, 0, [168]), (.aload_n 0, 0, [0]), (.iload_n 2, 0, [2]), (.aload_n 0, 0, [0]), (.getfield 31, 0, [9, 0, 7]), (.bipush 12, 12, []), (.iconst 4, 4, []), (.iload_n 2, 0, [2]), (.imul, 0, []), (.iadd, 0, []), (.invokevirtual 74, 0, [122, 1, 3, 56, 0, 5, 0]), (.invokevirtual 104, 0, [132, 9, 19, 8, 0, 100, 5, 0]), (.iinc 2 1, 1, [2]), (.goto (-29), 0, [136])]
def s131_168 : List E := [(.return_, 0, [])]
def cd131 : List (Nat × List E) := [(0, s131_0), (21, s131_21), (52, s131_52), (76, s131_76), (107, s131_107), (136, s131_136), (168, s131_168)]
theorem l131_0 : lkc cd131 0 = s131_0 := rfl
theorem l131_21 : lkc cd131 21 = s131_21 := rfl
theorem l131_52 : lkc cd131 52 = s131_52 := rfl
theorem l131_76 : lkc cd131 76 = s131_76 := rfl
theorem l131_107 : lkc cd131 107 = s131_107 := rfl
theorem l131_136 : lkc cd131 136 = s131_136 := rfl
theorem l131_168 : lkc cd131 168 = s131_168 := rfl
theorem k131 : chkM 131 9 true cd131 = true := by decide +kernel
/- Reader.part(IJ)V -/
def s132_0 : List E := [(.aload_n 0, 0, [0]), (.lload_n 2, 0, [2]), (.ldc2_w 44, 12, []), (.ladd, 0, []), (.invokevirtual 46, 0, [133, 9, 19, 8, 0, 100, 5]), (.lload_n 2, 0, [2]), (.l2i, 0, []), (.istore 4, 0, [4]), (.aload_n 0, 0, [0]), (.getfield 15, 1, [9, 2, 81, 1]), (.iload_n 1, 0, [1]), (.iload 4, 0, [4]), (.iastore, 0, []), (.aload_n 0, 0, [0]), (.getfield 31, 0, [9, 0, 7]), (.iload 4, 0, [4]), (.invokevirtual 50, 0, [117, 1, 3, 51, 0, 0, 0]), (.istore 5, 0, [5]), (.iload 5, 0, [5]), (.ldc 54, 65536, []), (.if_icmp .eq 22, 0, [58]), (.iload 5, 0, [5]), (.ldc 55, 1330926671, []), (.if_icmp .eq 15, 0, [58]), (.new 39, 0, [17, 35, 8]), (.dup, 0, []), (.bipush 22, 22, []), (.iload 4, 0, [4]), (.invokespecial 41, 0, [470, 17, 35, 30, 0, 100, 0, 0]), (.athrow, 0, [])]
def s132_58 : List E := [(.aload_n 0, 0, [0]), (.getfield 19, 2, [9, 3, 81, 1]), (.iload_n 1, 0, [1]), (.aload_n 0, 0, [0]), (.getfield 31, 0, [9, 0, 7]), (.iload 4, 0, [4]), (.iconst 4, 4, []), (.iadd, 0, []), (.invokevirtual 56, 0, [118, 1, 3, 72, 0, 0, 0]), (.iastore, 0, []), (.aload_n 0, 0, [0]), (.getfield 19, 2, [9, 3, 81, 1]), (.iload_n 1, 0, [1]), (.iaload, 0, []), (.i2l, 0, []), (.lconst 1, 1, []), (.ldc2_w 59, 16, []), (.invokestatic 61, 0, [38, 89, 0, 3, 5, 5, 5]), (.ifCond .ne 17, 0, [106]), (.new 39, 0, [17, 35, 8]), (.dup, 0, []), (.bipush 23, 23, []), (.iload 4, 0, [4]), (.iconst 4, 4, []), (.iadd, 0, []), (.invokespecial 41, 0, [470, 17, 35, 30, 0, 100, 0, 0]), (.athrow, 0, [])]
def s132_106 : List E := [(.iload 4, 0, [4]), (.bipush 12, 12, []), (.iadd, 0, []), (.bipush 16, 16, []), (.aload_n 0, 0, [0]), (.getfield 19, 2, [9, 3, 81, 1]), (.iload_n 1, 0, [1]), (.iaload, 0, []), (.imul, 0, []), (.iadd, 0, []), (.istore 6, 0, [6]), (.aload_n 0, 0, [0]), (.iload 6, 0, [6]), (.i2l, 0, []), (.invokevirtual 46, 0, [133, 9, 19, 8, 0, 100, 5]), (.aload_n 0, 0, [0]), (.aload_n 0, 0, [0]), (.getfield 65, 0, [9, 7, 0]), (.iload 6, 0, [6]), (.invokestatic 68, 0, [1, 93, 0, 0, 0, 0]), (.putfield 65, 0, [9, 7, 0]), (.return_, 0, [])]
def cd132 : List (Nat × List E) := [(0, s132_0), (58, s132_58), (106, s132_106)]
theorem l132_0 : lkc cd132 0 = s132_0 := rfl
theorem l132_58 : lkc cd132 58 = s132_58 := rfl
theorem l132_106 : lkc cd132 106 = s132_106 := rfl
theorem k132 : chkM 132 9 true cd132 = true := by decide +kernel
/- Reader.needs(J)V -/
def s133_0 : List E := [(.lload_n 1, 0, [1]), (.aload_n 0, 0, [0]), (.getfield 31, 0, [9, 0, 7]), (.getfield 35, 0, [1, 1, 0]), (.i2l, 0, []), (.lcmp, 0, []), (.ifCond .le 20, 0, [30]), (.new 39, 0, [17, 35, 8]), (.dup, 0, []), (.bipush 21, 21, []), (.aload_n 0, 0, [0]), (.getfield 31, 0, [9, 0, 7]), (.getfield 35, 0, [1, 1, 0]), (.invokespecial 41, 0, [470, 17, 35, 8, 0, 100, 0, 0]), (.athrow, 0, [])]
def s133_30 : List E := [(.return_, 0, [])]
def cd133 : List (Nat × List E) := [(0, s133_0), (30, s133_30)]
theorem l133_0 : lkc cd133 0 = s133_0 := rfl
theorem l133_30 : lkc cd133 30 = s133_30 := rfl
theorem k133 : chkM 133 9 true cd133 = true := by decide +kernel
/- Reader.directories()V -/
def s134_0 : List E := [(.aload_n 0, 0, [0]), (.iconst 0, 0, []), (.putfield 111, 0, [9, 4, 0]), (.iconst 0, 0, []), (.istore_n 1, 0, [1]), (.nop, 0, [7])]
def s134_7 : List E := [(.iload_n 1, 0, [1]), (.aload_n 0, 0, [0]), (.getfield 101, 0, [9, 1, 0]), (.if_icmp .ge 174, 0, [186]), (.iconst 0, 0, []), (.istore_n 2, 0, [2]), (.nop, 0, [17])]
def s134_17 : List E := [(.iload_n 2, 0, [2]), (.aload_n 0, 0, [0]), (.getfield 19, 2, [9, 3, 81, 1]), (.iload_n 1, 0, [1]), (.iaload, 0, []), (.if_icmp .ge 156, 0, [180]), (.aload_n 0, 0, [0]), (.dup, 0, []), (.getfield 111, 0, [9, 4, 0]), (.dup_x1, 0, []), (.iconst 1, 1, []), (.iadd, 0, []), (.putfield 111, 0, [9, 4, 0]), (.istore_n 3, 0, [3]), (.aload_n 0, 0, [0]), (.getfield 22, 3, [9, 5, 81, 1]), (.iload_n 3, 0, [3]), (.aload_n 0, 0, [0]), (.getfield 15, 1, [9, 2, 81, 1]), (.iload_n 1, 0, [1]), (.iaload, 0, []), (.bipush 12, 12, []), (.iadd, 0, []), (.bipush 16, 16, []), (.iload_n 2, 0, [2]), (.imul, 0, []), (.iadd, 0, []), (.iastore, 0, []), (.iload_n 2, 0, [2]), (.ifCond .le 35, 0, [95]), (.aload_n 0, 0, [0]), (.iload_n 3, 0, [3]), (.invokevirtual 78, 0, [135, 9, 19, 30, 0, 5, 0]), (.aload_n 0, 0, [0]), (.iload_n 3, 0, [3]), (.iconst 1, 1, []), (.isub, 0, []), (.invokevirtual 78, 0, [135, 9, 19, 30, 0, 5, 0]), (.lcmp, 0, []), (.ifCond .gt 19, 0, [95]), (.new 39, 0, [17, 35, 8]), (.dup, 0, []), (.bipush 24, 24, []), (.aload_n 0, 0, [0]), (.getfield 22, 3, [9, 5, 81, 1]), (.iload_n 3, 0, [3]), (.iaload, 0, []), (.invokespecial 41, 0, [470, 17, 35, 51, 0, 100, 0, 0]), (.athrow, 0, [])]
def s134_95 : List E := [(.aload_n 0, 0, [0]), (.iload_n 3, 0, [3]), (.invokevirtual 81, 0, [136, 9, 19, 30, 0, 5, 0]), (.ldc2_w 109, 4, []), (.lrem, 0, []), (.lconst 0, 0, []), (.lcmp, 0, []), (.ifCond .ne 52, 0, [158]), (.aload_n 0, 0, [0]), (.iload_n 3, 0, [3]), (.invokevirtual 81, 0, [136, 9, 19, 30, 0, 5, 0]), (.aload_n 0, 0, [0]), (.getfield 65, 0, [9, 7, 0]), (.i2l, 0, []), (.lcmp, 0, []), (.ifCond .lt 38, 0, [158]), (.aload_n 0, 0, [0]), (.iload_n 3, 0, [3]), (.invokevirtual 84, 0, [137, 9, 19, 30, 0, 5, 0]), (.ldc2_w 114, 12000, []), (.lcmp, 0, []), (.ifCond .gt 26, 0, [158]), (.aload_n 0, 0, [0]), (.iload_n 3, 0, [3]), (.invokevirtual 81, 0, [136, 9, 19, 30, 0, 5, 0]), (.aload_n 0, 0, [0]), (.iload_n 3, 0, [3]), (.invokevirtual 84, 0, [137, 9, 19, 30, 0, 5, 0]), (.ladd, 0, []), (.aload_n 0, 0, [0]), (.getfield 31, 0, [9, 0, 7]), (.getfield 35, 0, [1, 1, 0]), (.i2l, 0, []), (.lcmp, 0, []), (.ifCond .le 19, 0, [174]), (.nop, 0, [158])]
def s134_158 : List E := [(.new 39, 0, [17, 35, 8]), (.dup, 0, []), (.bipush 25, 25, []), (.aload_n 0, 0, [0]), (.getfield 22, 3, [9, 5, 81, 1]), (.iload_n 3, 0, [3]), (.iaload, 0, []), (.invokespecial 41, 0, [470, 17, 35, 51, 0, 100, 0, 0]), (.athrow, 0, [])]
def s134_174 : List E := [(.iinc 2 1, 1, [2]), (.goto (-160), 0, [17])]
def s134_180 : List E := [(.iinc 1 1, 1, [1]), (.goto (-176), 0, [7])]
def s134_186 : List E := [(.iconst 0, 0, []), (.istore_n 1, 0, [1]), (.nop, 0, [188])]
def s134_188 : List E := [(.iload_n 1, 0, [1]), (.aload_n 0, 0, [0]), (.getfield 111, 0, [9, 4, 0]), (.if_icmp .ge 56, 0, [249]), (.iconst 0, 0, []), (.istore_n 2, 0, [2]), (.nop, 0, [198])]
def s134_198 : List E := [(.iload_n 2, 0, [2]), (.iload_n 1, 0, [1]), (.if_icmp .ge 43, 0, [243]), (.aload_n 0, 0, [0]), (.iload_n 2, 0, [2]), (.iload_n 1, 0, [1]), (.invokevirtual 116, 0, [138, 9, 19, 8, 0, 3, 0, 0]), (.ifCond .eq 28, 0, [237]), (.aload_n 0, 0, [0]), (.iload_n 2, 0, [2]), (.iload_n 1, 0, [1]), (.invokevirtual 120, 0, [139, 9, 19, 8, 0, 3, 0, 0]), (.ifCond .ne 19, 0, [237]), (.new 39, 0, [17, 35, 8]), (.dup, 0, []), (.bipush 26, 26, []), (.aload_n 0, 0, [0]), (.getfield 22, 3, [9, 5, 81, 1]), (.iload_n 1, 0, [1]), (.iaload, 0, []), (.invokespecial 41, 0, [470, 17, 35, 51, 0, 100, 0, 0]), (.athrow, 0, [])]
def s134_237 : List E := [(.iinc 2 1, 1, [2]), (.goto (-42), 0, [198])]
def s134_243 : List E := [(.iinc 1 1, 1, [1]), (.goto (-58), 0, [188])]
def s134_249 : List E := [(.iconst 0, 0, []), (.istore_n 1, 0, [1]), (.nop, 0, [251])]
def s134_251 : List E := [(.iload_n 1, 0, [1]), (.aload_n 0, 0, [0]), (.getfield 111, 0, [9, 4, 0]), (.if_icmp .ge 48, 0, [304]), (.aload_n 0, 0, [0]), (.iload_n 1, 0, [1]), (.invokevirtual 123, 0, [140, 9, 19, 9, 0, 0, 0]), (.aload_n 0, 0, [0]), (.getfield 31, 0, [9, 0, 7]), (.aload_n 0, 0, [0]), (.getfield 22, 3, [9, 5, 81, 1]), (.iload_n 1, 0, [1]), (.iaload, 0, []), (.iconst 4, 4, []), (.iadd, 0, []), (.invokevirtual 50, 0, [117, 1, 3, 72, 0, 0, 0]), (.if_icmp .eq 19, 0, [298]), (.new 39, 0, [17, 35, 8]), (.dup, 0, []), (.bipush 27, 27, []), (.aload_n 0, 0, [0]), (.getfield 22, 3, [9, 5, 81, 1]), (.iload_n 1, 0, [1]), (.iaload, 0, []), (.invokespecial 41, 0, [470, 17, 35, 51, 0, 100, 0, 0]), (.athrow, 0, [])]
def s134_298 : List E := [(.iinc 1 1, 1, [1]), (.goto (-50), 0, [251])]
def s134_304 : List E := [(.return_, 0, [])]
def cd134 : List (Nat × List E) := [(0, s134_0), (7, s134_7), (17, s134_17), (95, s134_95), (158, s134_158), (174, s134_174), (180, s134_180), (186, s134_186), (188, s134_188), (198, s134_198), (237, s134_237), (243, s134_243), (249, s134_249), (251, s134_251), (298, s134_298), (304, s134_304)]
theorem l134_0 : lkc cd134 0 = s134_0 := rfl
theorem l134_7 : lkc cd134 7 = s134_7 := rfl
theorem l134_17 : lkc cd134 17 = s134_17 := rfl
theorem l134_95 : lkc cd134 95 = s134_95 := rfl
theorem l134_158 : lkc cd134 158 = s134_158 := rfl
theorem l134_174 : lkc cd134 174 = s134_174 := rfl
theorem l134_180 : lkc cd134 180 = s134_180 := rfl
theorem l134_186 : lkc cd134 186 = s134_186 := rfl
theorem l134_188 : lkc cd134 188 = s134_188 := rfl
theorem l134_198 : lkc cd134 198 = s134_198 := rfl
theorem l134_237 : lkc cd134 237 = s134_237 := rfl
theorem l134_243 : lkc cd134 243 = s134_243 := rfl
theorem l134_249 : lkc cd134 249 = s134_249 := rfl
theorem l134_251 : lkc cd134 251 = s134_251 := rfl
theorem l134_298 : lkc cd134 298 = s134_298 := rfl
theorem l134_304 : lkc cd134 304 = s134_304 := rfl
theorem k134 : chkM 134 9 true cd134 = true := by decide +kernel
/- Reader.tagOf(I)J -/
def s135_0 : List E := [(.aload_n 0, 0, [0]), (.getfield 31, 0, [9, 0, 7]), (.aload_n 0, 0, [0]), (.getfield 22, 3, [9, 5, 81, 1]), (.iload_n 1, 0, [1]), (.iaload, 0, []), (.invokevirtual 74, 0, [122, 1, 3, 8, 0, 5, 0]), (.lreturn, 0, [])]
def cd135 : List (Nat × List E) := [(0, s135_0)]
theorem l135_0 : lkc cd135 0 = s135_0 := rfl
theorem k135 : chkM 135 9 true cd135 = true := by decide +kernel
/- Reader.placeOf(I)J -/
def s136_0 : List E := [(.aload_n 0, 0, [0]), (.getfield 31, 0, [9, 0, 7]), (.aload_n 0, 0, [0]), (.getfield 22, 3, [9, 5, 81, 1]), (.iload_n 1, 0, [1]), (.iaload, 0, []), (.bipush 8, 8, []), (.iadd, 0, []), (.invokevirtual 74, 0, [122, 1, 3, 8, 0, 5, 0]), (.lreturn, 0, [])]
def cd136 : List (Nat × List E) := [(0, s136_0)]
theorem l136_0 : lkc cd136 0 = s136_0 := rfl
theorem k136 : chkM 136 9 true cd136 = true := by decide +kernel
/- Reader.lengthOf(I)J -/
def s137_0 : List E := [(.aload_n 0, 0, [0]), (.getfield 31, 0, [9, 0, 7]), (.aload_n 0, 0, [0]), (.getfield 22, 3, [9, 5, 81, 1]), (.iload_n 1, 0, [1]), (.iaload, 0, []), (.bipush 12, 12, []), (.iadd, 0, []), (.invokevirtual 74, 0, [122, 1, 3, 8, 0, 5, 0]), (.lreturn, 0, [])]
def cd137 : List (Nat × List E) := [(0, s137_0)]
theorem l137_0 : lkc cd137 0 = s137_0 := rfl
theorem k137 : chkM 137 9 true cd137 = true := by decide +kernel
/- Reader.isOver(II)Z -/
def s138_0 : List E := [(.aload_n 0, 0, [0]), (.iload_n 1, 0, [1]), (.invokevirtual 81, 0, [136, 9, 19, 8, 0, 5, 0]), (.aload_n 0, 0, [0]), (.iload_n 2, 0, [2]), (.invokevirtual 81, 0, [136, 9, 19, 8, 0, 5, 0]), (.invokestatic 87, 0, [2, 90, 0, 5, 5, 5]), (.aload_n 0, 0, [0]), (.iload_n 1, 0, [1]), (.invokevirtual 81, 0, [136, 9, 19, 8, 0, 5, 0]), (.aload_n 0, 0, [0]), (.iload_n 1, 0, [1]), (.invokevirtual 84, 0, [137, 9, 19, 8, 0, 5, 0]), (.ladd, 0, []), (.aload_n 0, 0, [0]), (.iload_n 2, 0, [2]), (.invokevirtual 81, 0, [136, 9, 19, 8, 0, 5, 0]), (.aload_n 0, 0, [0]), (.iload_n 2, 0, [2]), (.invokevirtual 84, 0, [137, 9, 19, 8, 0, 5, 0]), (.ladd, 0, []), (.invokestatic 90, 0, [3, 90, 0, 5, 5, 5]), (.lcmp, 0, []), (.ifCond .ge 7, 0, [46]), (.iconst 1, 1, []), (.goto 4, 0, [47])]
def s138_46 : List E := [(.iconst 0, 0, []), (.nop, 0, [47])]
def s138_47 : List E := [(.ireturn, 0, [1])]
def cd138 : List (Nat × List E) := [(0, s138_0), (46, s138_46), (47, s138_47)]
theorem l138_0 : lkc cd138 0 = s138_0 := rfl
theorem l138_46 : lkc cd138 46 = s138_46 := rfl
theorem l138_47 : lkc cd138 47 = s138_47 := rfl
theorem k138 : chkM 138 9 true cd138 = true := by decide +kernel
/- Reader.isSame(II)Z -/
def s139_0 : List E := [(.aload_n 0, 0, [0]), (.iload_n 1, 0, [1]), (.invokevirtual 78, 0, [135, 9, 19, 8, 0, 5, 0]), (.aload_n 0, 0, [0]), (.iload_n 2, 0, [2]), (.invokevirtual 78, 0, [135, 9, 19, 8, 0, 5, 0]), (.lcmp, 0, []), (.ifCond .ne 35, 0, [46]), (.aload_n 0, 0, [0]), (.iload_n 1, 0, [1]), (.invokevirtual 81, 0, [136, 9, 19, 8, 0, 5, 0]), (.aload_n 0, 0, [0]), (.iload_n 2, 0, [2]), (.invokevirtual 81, 0, [136, 9, 19, 8, 0, 5, 0]), (.lcmp, 0, []), (.ifCond .ne 21, 0, [46]), (.aload_n 0, 0, [0]), (.iload_n 1, 0, [1]), (.invokevirtual 84, 0, [137, 9, 19, 8, 0, 5, 0]), (.aload_n 0, 0, [0]), (.iload_n 2, 0, [2]), (.invokevirtual 84, 0, [137, 9, 19, 8, 0, 5, 0]), (.lcmp, 0, []), (.ifCond .ne 7, 0, [46]), (.iconst 1, 1, []), (.goto 4, 0, [47])]
def s139_46 : List E := [(.iconst 0, 0, []), (.nop, 0, [47])]
def s139_47 : List E := [(.ireturn, 0, [1])]
def cd139 : List (Nat × List E) := [(0, s139_0), (46, s139_46), (47, s139_47)]
theorem l139_0 : lkc cd139 0 = s139_0 := rfl
theorem l139_46 : lkc cd139 46 = s139_46 := rfl
theorem l139_47 : lkc cd139 47 = s139_47 := rfl
theorem k139 : chkM 139 9 true cd139 = true := by decide +kernel
/- Reader.sumOf(I)I -/
def s140_0 : List E := [(.aload_n 0, 0, [0]), (.getfield 31, 0, [9, 0, 7]), (.aload_n 0, 0, [0]), (.iload_n 1, 0, [1]), (.invokevirtual 81, 0, [136, 9, 19, 8, 0, 5, 0]), (.l2i, 0, []), (.aload_n 0, 0, [0]), (.iload_n 1, 0, [1]), (.invokevirtual 84, 0, [137, 9, 19, 8, 0, 5, 0]), (.l2i, 0, []), (.aload_n 0, 0, [0]), (.iload_n 1, 0, [1]), (.invokevirtual 78, 0, [135, 9, 19, 8, 0, 5, 0]), (.getstatic 93, 1751474532, [0]), (.lcmp, 0, []), (.ifCond .ne 8, 0, [33]), (.bipush 8, 8, []), (.goto 5, 0, [35])]
def s140_33 : List E := [(.bipush (-4), -4, []), (.nop, 0, [35])]
def s140_35 : List E := [(.invokevirtual 97, 0, [116, 1, 3, 67, 0, 0, 0, 0, 0]), (.ireturn, 0, [])]
def cd140 : List (Nat × List E) := [(0, s140_0), (33, s140_33), (35, s140_35)]
theorem l140_0 : lkc cd140 0 = s140_0 := rfl
theorem l140_33 : lkc cd140 33 = s140_33 := rfl
theorem l140_35 : lkc cd140 35 = s140_35 := rfl
theorem k140 : chkM 140 9 true cd140 = true := by decide +kernel
/- Reader.wholeSum()V -/
def s141_0 : List E := [(.iconst 0, 0, []), (.istore_n 1, 0, [1]), (.nop, 0, [2])]
def s141_2 : List E := [(.iload_n 1, 0, [1]), (.aload_n 0, 0, [0]), (.getfield 111, 0, [9, 4, 0]), (.if_icmp .ge 87, 0, [94]), (.aload_n 0, 0, [0]), (.iload_n 1, 0, [1]), (.invokevirtual 78, 0, [135, 9, 19, 8, 0, 5, 0]), (.getstatic 93, 1751474532, [0]), (.lcmp, 0, []), (.ifCond .ne 69, 0, [88]), (.aload_n 0, 0, [0]), (.iload_n 1, 0, [1]), (.invokevirtual 84, 0, [137, 9, 19, 8, 0, 5, 0]), (.ldc2_w 44, 12, []), (.lcmp, 0, []), (.ifCond .ge 6, 0, [37]), (.goto 54, 0, [88])]
def s141_37 : List E := [(.aload_n 0, 0, [0]), (.iload_n 1, 0, [1]), (.invokevirtual 81, 0, [136, 9, 19, 8, 0, 5, 0]), (.l2i, 0, []), (.bipush 8, 8, []), (.iadd, 0, []), (.istore_n 2, 0, [2]), (.aload_n 0, 0, [0]), (.getfield 31, 0, [9, 0, 7]), (.iload_n 2, 0, [2]), (.invokevirtual 50, 0, [117, 1, 3, 50, 0, 0, 0]), (.ldc 126, -1313820742, []), (.aload_n 0, 0, [0]), (.getfield 31, 0, [9, 0, 7]), (.iconst 0, 0, []), (.aload_n 0, 0, [0]), (.getfield 31, 0, [9, 0, 7]), (.getfield 35, 0, [1, 1, 0]), (.iload_n 2, 0, [2]), (.invokevirtual 97, 0, [116, 1, 3, 67, 0, 0, 0, 0, 0]), (.isub, 0, [1]), (.if_icmp .eq 14, 0, [88]), (.new 39, 0, [17, 35, 8]), (.dup, 0, []), (.bipush 28, 28, []), (.iload_n 2, 0, [2]), (.invokespecial 41, 0, [470, 17, 35, 29, 0, 100, 0, 0]), (.athrow, 0, [])]
def s141_88 : List E := [(.iinc 1 1, 1, [1]), (.goto (-89), 0, [2])]
def s141_94 : List E := [(.return_, 0, [])]
def cd141 : List (Nat × List E) := [(0, s141_0), (2, s141_2), (37, s141_37), (88, s141_88), (94, s141_94)]
theorem l141_0 : lkc cd141 0 = s141_0 := rfl
theorem l141_2 : lkc cd141 2 = s141_2 := rfl
theorem l141_37 : lkc cd141 37 = s141_37 := rfl
theorem l141_88 : lkc cd141 88 = s141_88 := rfl
theorem l141_94 : lkc cd141 94 = s141_94 := rfl
theorem k141 : chkM 141 9 true cd141 = true := by decide +kernel
