set_option maxRecDepth 100000
/- Opener.thing(I)I -/
def s512w_0 : List E := [(.aload_n 0, 0, [0]), (.getfield 20, 3, [4, 5, 81, 1]), (.iload_n 1, 0, [1]), (.iaload, 0, []), (.iconst 2, 2, []), (.if_icmp .ge 5, 0, [12]), (.iconst 0, 0, []), (.ireturn, 0, [])]
def s512w_12 : List E := [(.aload_n 0, 0, [0]), (.getfield 30, 6, [4, 8, 81, 1]), (.iload_n 1, 0, [1]), (.iaload, 0, []), (.ifCond .ne 93, 0, [111]), (.aload_n 0, 0, [0]), (.getfield 38, 7, [4, 9, 11, 1]), (.aload_n 0, 0, [0]), (.iload_n 1, 0, [1]), (.invokevirtual 180, 0, [519, 5, 11, 30, 0, 0, 0, 10]), (.istore_n 2, 0, [2]), (.iload_n 2, 0, [2]), (.ifCond .ne 12, 0, [44]), (.aload_n 0, 0, [0]), (.getfield 27, 5, [4, 7, 81, 1]), (.iload_n 1, 0, [1]), (.iaload, 0, []), (.goto 29, 0, [70])]
def s512w_44 : List E := [(.iload_n 2, 0, [2]), (.iconst 1, 1, []), (.if_icmp .ne 21, 0, [67]), (.aload_n 0, 0, [0]), (.getfield 24, 4, [4, 6, 81, 1]), (.iload_n 1, 0, [1]), (.iaload, 0, []), (.iconst 1, 1, []), (.iadd, 0, []), (.aload_n 0, 0, [0]), (.getfield 20, 3, [4, 5, 81, 1]), (.iload_n 1, 0, [1]), (.iaload, 0, []), (.irem, 0, []), (.goto 6, 0, [70])]
def s512w_67 : List E := [(.iload_n 2, 0, [2]), (.iconst 2, 2, []), (.isub, 0, []), (.nop, 0, [70])]
def s512w_70 : List E := [(.istore_n 3, 0, [3]), (.aload_n 0, 0, [0]), (.getfield 27, 5, [4, 7, 81, 1]), (.iload_n 1, 0, [1]), (.aload_n 0, 0, [0]), (.getfield 24, 4, [4, 6, 81, 1]), (.iload_n 1, 0, [1]), (.iaload, 0, []), (.iastore, 0, []), (.aload_n 0, 0, [0]), (.getfield 24, 4, [4, 6, 81, 1]), (.iload_n 1, 0, [1]), (.iload_n 3, 0, [3]), (.iastore, 0, []), (.aload_n 0, 0, [0]), (.getfield 30, 6, [4, 8, 81, 1]), (.iload_n 1, 0, [1]), (.aload_n 0, 0, [0]), (.iload_n 1, 0, [1]), (.invokevirtual 177, 0, [508, 4, 9, 8, 0, 0, 0]), (.iastore, 0, []), (.aload_n 0, 0, [0]), (.dup, 0, []), (.getfield 136, 0, [4, 29, 0]), (.iconst 1, 1, []), (.iadd, 0, [1]), (.putfield 136, 0, [4, 29, 0]), (.nop, 0, [111])]
def s512w_111 : List E := [(.aload_n 0, 0, [0]), (.getfield 30, 6, [4, 8, 81, 1]), (.iload_n 1, 0, [1]), (.dup2, 0, []), (.iaload, 0, []), (.iconst 1, 1, []), (.isub, 0, []), (.iastore, 0, []), (.aload_n 0, 0, [0]), (.getfield 24, 4, [4, 6, 81, 1]), (.iload_n 1, 0, [1]), (.iaload, 0, []), (.ireturn, 0, [])]
def cd512w : List (Nat × List E) := [(0, s512w_0), (12, s512w_12), (44, s512w_44), (67, s512w_67), (70, s512w_70), (111, s512w_111)]
theorem l512w_0 : lkc cd512w 0 = s512w_0 := rfl
theorem l512w_12 : lkc cd512w 12 = s512w_12 := rfl
theorem l512w_44 : lkc cd512w 44 = s512w_44 := rfl
theorem l512w_67 : lkc cd512w 67 = s512w_67 := rfl
theorem l512w_70 : lkc cd512w 70 = s512w_70 := rfl
theorem l512w_111 : lkc cd512w 111 = s512w_111 := rfl
theorem k512w : chkM 512 4 true cd512w = true := by decide +kernel
/- FontHouseModel.wanted(I)V -/
def s267w_0 : List E := [(.aload_n 0, 0, [0]), (.getfield 48, 11, [16, 16, 81, 1]), (.iload_n 1, 0, [1]), (.iaload, 0, []), (.iconst 2, 2, []), (.if_icmp .ge 4, 0, [11]), (.return_, 0, [])]
def s267w_11 : List E := [(.aload_n 0, 0, [0]), (.getfield 57, 14, [16, 19, 81, 1]), (.iload_n 1, 0, [1]), (.iaload, 0, []), (.ifCond .ne 127, 0, [144]), (.aload_n 0, 0, [0]), (.sipush 768, 768, []), (.iload_n 1, 0, [1]), (.iadd, 0, []), (.invokevirtual 396, 0, [261, 16, 33, 30, 0, 0, 0]), (.istore_n 2, 0, [2]), (.aload_n 0, 0, [0]), (.getfield 343, 0, [16, 2, 0]), (.ifCond .le 4, 0, [38]), (.return_, 0, [])]
def s267w_38 : List E := [(.iload_n 2, 0, [2]), (.ifCond .ne 12, 0, [51]), (.aload_n 0, 0, [0]), (.getfield 54, 13, [16, 18, 81, 1]), (.iload_n 1, 0, [1]), (.iaload, 0, []), (.goto 43, 0, [91])]
def s267w_51 : List E := [(.iload_n 2, 0, [2]), (.iconst 1, 1, []), (.if_icmp .ne 35, 0, [88]), (.aload_n 0, 0, [0]), (.getfield 51, 12, [16, 17, 81, 1]), (.iload_n 1, 0, [1]), (.iaload, 0, []), (.iconst 1, 1, []), (.iadd, 0, []), (.aload_n 0, 0, [0]), (.getfield 48, 11, [16, 16, 81, 1]), (.iload_n 1, 0, [1]), (.iaload, 0, []), (.if_icmp .ge 14, 0, [84]), (.aload_n 0, 0, [0]), (.getfield 51, 12, [16, 17, 81, 1]), (.iload_n 1, 0, [1]), (.iaload, 0, []), (.iconst 1, 1, []), (.iadd, 0, []), (.goto 10, 0, [91])]
def s267w_84 : List E := [(.iconst 0, 0, []), (.goto 6, 0, [91])]
def s267w_88 : List E := [(.iload_n 2, 0, [2]), (.iconst 2, 2, []), (.isub, 0, []), (.nop, 0, [91])]
def s267w_91 : List E := [(.istore_n 3, 0, [3]), (.aload_n 0, 0, [0]), (.getfield 54, 13, [16, 18, 81, 1]), (.iload_n 1, 0, [1]), (.aload_n 0, 0, [0]), (.getfield 51, 12, [16, 17, 81, 1]), (.iload_n 1, 0, [1]), (.iaload, 0, []), (.iastore, 0, []), (.aload_n 0, 0, [0]), (.getfield 51, 12, [16, 17, 81, 1]), (.iload_n 1, 0, [1]), (.iload_n 3, 0, [3]), (.iastore, 0, []), (.aload_n 0, 0, [0]), (.getfield 57, 14, [16, 19, 81, 1]), (.iload_n 1, 0, [1]), (.aload_n 0, 0, [0]), (.iload_n 1, 0, [1]), (.invokevirtual 408, 0, [262, 16, 33, 8, 0, 0, 0]), (.iastore, 0, []), (.aload_n 0, 0, [0]), (.getfield 28, 5, [16, 9, 81, 1]), (.bipush 10, 10, []), (.dup2, 0, []), (.iaload, 0, []), (.aload_n 0, 0, [0]), (.getfield 343, 0, [16, 2, 0]), (.ifCond .ne 7, 0, [141]), (.iconst 1, 1, []), (.goto 4, 0, [142])]
def s267w_141 : List E := [(.iconst 0, 0, []), (.nop, 0, [142])]
def s267w_142 : List E := [(.iadd, 0, [1]), (.iastore, 0, []), (.nop, 0, [144])]
def s267w_144 : List E := [(.aload_n 0, 0, [0]), (.getfield 57, 14, [16, 19, 81, 1]), (.iload_n 1, 0, [1]), (.dup2, 0, []), (.iaload, 0, []), (.iconst 1, 1, []), (.isub, 0, []), (.iastore, 0, []), (.return_, 0, [])]
def cd267w : List (Nat × List E) := [(0, s267w_0), (11, s267w_11), (38, s267w_38), (51, s267w_51), (84, s267w_84), (88, s267w_88), (91, s267w_91), (141, s267w_141), (142, s267w_142), (144, s267w_144)]
theorem l267w_0 : lkc cd267w 0 = s267w_0 := rfl
theorem l267w_11 : lkc cd267w 11 = s267w_11 := rfl
theorem l267w_38 : lkc cd267w 38 = s267w_38 := rfl
theorem l267w_51 : lkc cd267w 51 = s267w_51 := rfl
theorem l267w_84 : lkc cd267w 84 = s267w_84 := rfl
theorem l267w_88 : lkc cd267w 88 = s267w_88 := rfl
theorem l267w_91 : lkc cd267w 91 = s267w_91 := rfl
theorem l267w_141 : lkc cd267w 141 = s267w_141 := rfl
theorem l267w_142 : lkc cd267w 142 = s267w_142 := rfl
theorem l267w_144 : lkc cd267w 144 = s267w_144 := rfl
theorem k267w : chkM 267 16 true cd267w = true := by decide +kernel
theorem w_inc {x y : Int} (h : x = y) : wr (x + 1) = wr (y + 1) := by rw [h]
/-- the types of a kind -/
def RK (k : Int) (h w : Mem) : Prop := (h 279 k = w 28 k ∧ 1 ≤ h 279 k ∧ h 279 k ≤ 256) ∧ (h 279 k < 2 → w 29 k = 0) ∧ (2 ≤ h 279 k → (h 280 k = w 29 k ∧ 0 ≤ h 280 k ∧ h 280 k < h 279 k) ∧ (h 281 k = w 30 k ∧ 0 ≤ h 281 k ∧ h 281 k < h 279 k) ∧ (h 282 k = w 31 k ∧ 0 ≤ h 282 k ∧ h 282 k ≤ 20000000) ∧ CR h w 283 258 k (768 + k) (h 279 k + 2) ∧ CR h w 286 26 k (771 + k) 26)
/-- what a kind's types may write -/
def kdC (k : Int) (a j : Int) : Prop := (a = 276 ∧ j = 29) ∨ (280 ≤ a ∧ a ≤ 282 ∧ j = k)
def kdM (k : Int) (a j : Int) : Prop := (a = 22 ∧ j = 10) ∨ (29 ≤ a ∧ a ≤ 31 ∧ j = k)
theorem zC_284' : ((gC.1 (283 + 1)).2 : Int) = 48 := by rw [show (gC.1 (283 + 1)).2 = 48 from zC_284]; rfl
theorem zC_285' : ((gC.1 (283 + 2)).2 : Int) = 774 := by rw [show (gC.1 (283 + 2)).2 = 774 from zC_285]; rfl
theorem bg_768 {k : Int} (k0 : 0 ≤ k ∧ k < 3) : bg (768 + k) = 378880 + 258 * k := by unfold bg; repeat' (first | omega | split)
