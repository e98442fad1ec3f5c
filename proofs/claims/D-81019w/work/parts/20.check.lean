set_option maxRecDepth 100000
def finT : List (List (Option Int)) := [[some (1), some (2), some (4), some (5), none, some (6), some (7), some (259), some (296), some (343), some (348), some (365), some (401), some (417), some (435), none, some (442), some (458), none, some (474)], [some (1), none, none, none], [some (1), some (2), some (3), none, none], [none, none, none, some (1), some (2)], [none, none, some (1), none, none, some (3), some (4), some (5), some (6), some (7), some (10), some (13), some (16), some (19), some (22), some (25), some (28), some (29), some (30), some (31), some (32), some (33), some (34), some (35), some (36), none, none, none, none, none, none], [none, some (1), some (2)], [some (1), none, some (2), some (3), some (4), some (21), some (25), some (29), some (33), some (37), none, some (38), some (39), some (40), some (41), none, some (42), some (43), some (44), some (45), some (46)], [none, none, none], [some (1), some (2), some (3), none, none], [none, none, some (1), some (2), none, some (3), some (4), none, some (-343)], [none, none, none, none, none, none, none, none, none, none, some (1)], [none, some (1), none, none, some (2), some (3), some (4), some (5), none, some (6), some (7), some (8), some (9), some (10), some (11), some (13), none, none, none, some (15)], [some (1), some (2), some (3), some (5), some (6), none, none, none], [some (1), some (8), some (10), some (12), some (14), some (-401)], [none, some (1), some (2), some (3), some (4), some (5), some (6), none, none, none, none], [none, none, some (1), some (8), some (9), some (10), some (11), some (12), some (14), some (15), some (-417)], [some (1), some (2), none, none, some (3), none, none, some (4), none, some (5), none, some (6), some (7), some (8), some (9), some (10), some (11), some (12), some (13), some (14), some (15), some (16), some (17), some (18), some (19), none, none, none, some (20), none, some (21), none, none, none, some (22), some (23), some (24), some (25), some (26), some (27), some (28), some (29), some (30), some (31), some (32), some (33), none, some (34), none, none, some (35), some (36), some (37), some (38), some (39), some (40), some (41), some (42), some (43), none, none, some (44), some (45), some (46), some (47), some (48), some (49), some (50), none, some (51), none, none, none, none, none, none, none, none, none, some (52), some (53), some (54), some (55), some (56), some (57), some (58), some (59), some (60), some (61), some (62), some (63), some (64), none, none, none, some (65), none, some (66), none, none, none, none, none, none, none, some (67), some (68), some (69), some (70), some (71), some (72), some (73), some (74), some (75), some (76), some (77), some (78), none, none, none, none, none, some (79), some (80), some (81), some (82), some (83), some (84), none, some (85), some (86), some (87), some (88), some (89), some (90), some (91), some (92), some (93), some (94), none, none, none, some (95), some (96), some (97), some (98), some (99), some (100), some (101), none, none, some (102)], [none, none, none, none, none, none, none, none]]
def fin (c j : Nat) : Option Int := (finT.getD c []).getD j none
def Fm (md : Bool) (g : G) : Prop := if md = true then ∀ c j, g.2.2 c j = fin c j else ∀ c j, g.2.2 c j = none
def hcn (k pc : Nat) : Nat := match hcov k pc with | none => 0 | some t => t + 1
def hokB (k o : Nat) : Bool := (mHd k).all (fun x => decide (x.2.2.2 ≠ 0) && decide ((o, x.2.2.2, 17) ∈ KC))
def kOb : Nat := 34
def chkE (k o pc : Nat) (md : Bool) (i : Instr) (l : Nat) (m : Int) (x : List Nat) : Bool := match i with
  | .iconst c => decide (l = 1 ∧ c = m ∧ -1 ≤ m ∧ m ≤ 5)
  | .bipush c => decide (l = 2 ∧ c = m ∧ -128 ≤ m ∧ m ≤ 127)
  | .sipush c => decide (l = 3 ∧ c = m ∧ -32768 ≤ m ∧ m ≤ 32767)
  | .ldc idx => decide (l = 2 ∧ -2147483648 ≤ m ∧ m ≤ 2147483647 ∧ (o, idx, m) ∈ CT)
  | .ldc_w idx => decide (l = 3 ∧ -2147483648 ≤ m ∧ m ≤ 2147483647 ∧ (o, idx, m) ∈ CT)
  | .lconst c => decide (l = 1 ∧ m = ((c : Nat) : Int))
  | .ldc2_w idx => decide (l = 3 ∧ -9223372036854775808 ≤ m ∧ m ≤ 9223372036854775807 ∧ (o, idx, m) ∈ CL)
  | .aconst_null => (match x with | [d] => decide (l = 1 ∧ d = 2 * (d / 2)) | _ => true)
  | .iload j => decide (l = 2 ∧ x = [j])
  | .lload j => decide (l = 2 ∧ x = [j])
  | .aload j => decide (l = 2 ∧ x = [j])
  | .iload_n j => decide (l = 1 ∧ x = [(j : Nat)])
  | .lload_n j => decide (l = 1 ∧ x = [(j : Nat)])
  | .aload_n j => decide (l = 1 ∧ x = [(j : Nat)])
  | .istore j => decide (l = 2 ∧ x = [j] ∧ j < mL k)
  | .lstore j => decide (l = 2 ∧ x = [j] ∧ j + 1 < mL k)
  | .astore j => decide (l = 2 ∧ x = [j] ∧ j < mL k)
  | .istore_n j => decide (l = 1 ∧ x = [(j : Nat)] ∧ (j : Nat) < mL k)
  | .lstore_n j => decide (l = 1 ∧ x = [(j : Nat)] ∧ (j : Nat) + 1 < mL k)
  | .astore_n j => decide (l = 1 ∧ x = [(j : Nat)] ∧ (j : Nat) < mL k)
  | .iinc j c => decide ((l = 3 ∨ l = 6) ∧ x = [j] ∧ j < mL k ∧ c = m)
  | .if_icmp _ off => (match x with | [t] => decide (l = 3 ∧ (pc : Int) + off = (t : Int)) | _ => true)
  | .ifCond _ off => (match x with | [t] => decide (l = 3 ∧ (pc : Int) + off = (t : Int)) | _ => true)
  | .if_acmp _ off => (match x with | [t] => decide (l = 3 ∧ (pc : Int) + off = (t : Int)) | _ => true)
  | .ifnull off => (match x with | [t] => decide (l = 3 ∧ (pc : Int) + off = (t : Int)) | _ => true)
  | .ifnonnull off => (match x with | [t] => decide (l = 3 ∧ (pc : Int) + off = (t : Int)) | _ => true)
  | .goto off => (match x with | [t] => decide (l = 3 ∧ (pc : Int) + off = (t : Int)) | _ => true)
  | .nop => false
  | .tableswitch df lo hi offs => (match x with | dt :: ts => decide ((pc : Int) + df = (dt : Int) ∧ hi = lo + (ts.length : Int) - 1 ∧ offs.toList.map (fun q => (pc : Int) + q) = ts.map (fun t : Nat => (t : Int))) | _ => true)
  | .lookupswitch df ps => (match x with | dt :: ts => decide ((pc : Int) + df = (dt : Int) ∧ (ps.toList.zip (ps.toList.drop 1)).all (fun (a, next) => a.1 < next.1) = true ∧ ps.toList.map (fun q => (pc : Int) + q.2) = ts.map (fun t : Nat => (t : Int))) | _ => true)
  | .getfield idx => (match x with
    | [c, j, t] => decide (l = 3 ∧ c < 18 ∧ j < clN c ∧ sk c j = t ∧ t ≠ 99 ∧ ((o, idx, c, j) ∈ FT ∨ (o, idx, c, j) ∈ FN))
    | [c, j, t, _] => decide (l = 3 ∧ c < 18 ∧ j < clN c ∧ 6 ≤ sk c j ∧ sk c j ≠ 99 ∧ sk c j ≠ 45 ∧ t = 2 * (sk c j - 6) + 1 ∧ md = true ∧ fin c j = some m ∧ ((o, idx, c, j) ∈ FT ∨ (o, idx, c, j) ∈ FN))
    | _ => true)
  | .putfield idx => (match x with
    | [c, j, t] => decide (l = 3 ∧ c < 18 ∧ j < clN c ∧ sk c j = t ∧ t ≠ 99 ∧ (md = true → fin c j = none) ∧ (((clT c j).2.2.2 = false ∧ ((o, idx, c, j) ∈ FT ∨ (o, idx, c, j) ∈ FN)) ∨ ((mY k).name = "<init>" ∧ (clT c j).1 = (mY k).cls ∧ (o, idx, c, j) ∈ FT)))
    | _ => true)
  | .getstatic idx => (match x with
    | [z] => decide (l = 3 ∧ (stz z).2.2.2 = vL m ∧ z < 17 ∧ -9223372036854775808 ≤ m ∧ m ≤ 9223372036854775807 ∧ ((o, idx, z) ∈ GT ∨ (o, idx, z) ∈ GN))
    | [z, d] => decide (l = 3 ∧ (stz z).2.2.2 = vR d m ∧ z < 17 ∧ 1 ≤ m ∧ m < 17 ∧ d = 2 * (d / 2) + 1 ∧ d / 2 ≠ 39 ∧ (stS m).1 = d / 2 ∧ ((o, idx, z) ∈ GT ∨ (o, idx, z) ∈ GN))
    | _ => true)
  | .baload => (match x with | [ak] => decide (l = 1 ∧ (ak = 41 ∨ ak = 44)) | _ => true)
  | .aaload => (match x with
    | [ak, d] => decide (l = 1 ∧ 45 ≤ ak ∧ ak < 48 ∧ d = 2 * (sk ak 0 - 6))
    | [_, d, _] => decide (l = 1 ∧ d = 78)
    | _ => true)
  | .aastore => (match x with | [ak, c] => decide (l = 1 ∧ 45 ≤ ak ∧ ak < 48 ∧ c = akc ak) | _ => true)
  | .arraylength => (match x with | [ak] => decide (l = 1 ∧ 40 ≤ ak ∧ ak < 49) | _ => true)
  | .new idx => (match x with | [c, d, N] => decide (l = 3 ∧ c < 18 ∧ d = 2 * c + 1 ∧ N = clN c ∧ (o, idx, c) ∈ KC ∧ c ∈ NI ∧ (md = true → (finT.getD c []).all (fun q => q.isNone) = true)) | _ => true)
  | .newarray at0 => (match x with | [ak, d] => decide (l = 2 ∧ ak = atc at0 ∧ ak ≠ 0 ∧ d = 2 * ak + 1) | _ => true)
  | .anewarray idx => (match x with | [ak, d] => decide (l = 3 ∧ 45 ≤ ak ∧ ak < 48 ∧ d = 2 * ak + 1 ∧ (o, idx, akc ak) ∈ KC) | _ => true)
  | .invokevirtual idx => (match x with
    | k' :: c :: d' :: W :: hc :: _ :: ts => decide (l = 3 ∧ c < 18 ∧ d' = 2 * c + 1 ∧ (k', c, ts.length) ∈ VK ∧ ((o, idx, k') ∈ MT ∨ (o, idx, k') ∈ MN) ∧ mFR k' + 1 ≤ mFR k ∧ W + (mL k' + 11) + mLO k' ≤ mLO k ∧ hc = hcn k pc)
    | _ => true)
  | .invokespecial idx => (match x with
    | k' :: c :: d' :: W :: hc :: _ :: ts => decide (l = 3 ∧ c < 18 ∧ d' = 2 * c + 1 ∧ (k', c, ts.length) ∈ IK ∧ ((o, idx, k') ∈ MT ∨ (o, idx, k') ∈ MN) ∧ mFR k' + 1 ≤ mFR k ∧ W + (mL k' + 11) + mLO k' ≤ mLO k ∧ hc = hcn k pc)
    | [W] => decide (l = 3 ∧ (o, idx, kOb) ∈ MT ∧ 1 ≤ mFR k ∧ W + 12 ≤ mLO k)
    | _ => true)
  | .invokestatic idx => (match x with
    | k' :: W :: hc :: _ :: ts => decide (l = 3 ∧ (k', ts.length) ∈ SK ∧ ((o, idx, k') ∈ MT ∨ (o, idx, k') ∈ MN) ∧ mFR k' + 1 ≤ mFR k ∧ W + (mL k' + 11) + mLO k' ≤ mLO k ∧ hc = hcn k pc)
    | [ak, W] => decide (l = 3 ∧ (ak = 40 ∨ ak = 41 ∨ ak = 43 ∨ ak = 45) ∧ (o, idx) ∈ AC ∧ 1 ≤ mFR k ∧ W + (nativeFrameWords "java/lang/System" "arraycopy" 5 + 11) ≤ mLO k)
    | _ => true)
  | .ireturn => (match x with | [_] => decide (l = 1 ∧ mRet k = some .boolean) | _ => decide (l = 1 ∧ mRet k = some .int))
  | .lreturn => decide (l = 1 ∧ mRet k = some .long)
  | .return_ => decide (l = 1 ∧ mRet k = none)
  | .areturn => (match x with | [kd, d'] => decide (l = 1 ∧ d' = 2 * kd ∧ (match mRet k with | some (.object _) => true | some (.array _) => true | _ => false) = true) | _ => true)
  | .athrow => decide (l = 1 ∧ mHd k = [])
  | _ => decide (l = 1)
theorem fin_of4 : ∀ a : Fin 4, Fin.ofNat 4 (((a : Nat) : Int)).toNat = a := by decide
theorem fin_of2 : ∀ a : Fin 2, Fin.ofNat 2 (((a : Nat) : Int)).toNat = a := by decide
def ic : Instr → Nat × List Int
  | .aaload => (1, [])
  | .aastore => (2, [])
  | .aconst_null => (3, [])
  | .areturn => (4, [])
  | .arraylength => (5, [])
  | .athrow => (6, [])
  | .baload => (7, [])
  | .bastore => (8, [])
  | .dup => (9, [])
  | .dup_x1 => (10, [])
  | .dup_x2 => (11, [])
  | .dup2 => (12, [])
  | .i2b => (13, [])
  | .i2c => (14, [])
  | .i2l => (15, [])
  | .i2s => (16, [])
  | .iadd => (17, [])
  | .iaload => (18, [])
  | .iand => (19, [])
  | .iastore => (20, [])
  | .idiv => (21, [])
  | .imul => (22, [])
  | .ineg => (23, [])
  | .ior => (24, [])
  | .irem => (25, [])
  | .ireturn => (26, [])
  | .ishl => (27, [])
  | .ishr => (28, [])
  | .isub => (29, [])
  | .iushr => (30, [])
  | .l2i => (31, [])
  | .ladd => (32, [])
  | .laload => (33, [])
  | .land => (34, [])
  | .lastore => (35, [])
  | .lcmp => (36, [])
  | .ldiv => (37, [])
  | .lmul => (38, [])
  | .lor => (39, [])
  | .lrem => (40, [])
  | .lreturn => (41, [])
  | .lshl => (42, [])
  | .lshr => (43, [])
  | .lsub => (44, [])
  | .lushr => (45, [])
  | .pop => (46, [])
  | .return_ => (47, [])
  | .saload => (48, [])
  | .sastore => (49, [])
  | .aload a => (50, [(a : Int)])
  | .anewarray a => (51, [(a : Int)])
  | .astore a => (52, [(a : Int)])
  | .checkcast a => (53, [(a : Int)])
  | .getfield a => (54, [(a : Int)])
  | .getstatic a => (55, [(a : Int)])
  | .iload a => (56, [(a : Int)])
  | .invokespecial a => (57, [(a : Int)])
  | .invokestatic a => (58, [(a : Int)])
  | .invokevirtual a => (59, [(a : Int)])
  | .istore a => (60, [(a : Int)])
  | .ldc a => (61, [(a : Int)])
  | .ldc_w a => (62, [(a : Int)])
  | .ldc2_w a => (63, [(a : Int)])
  | .lload a => (64, [(a : Int)])
  | .lstore a => (65, [(a : Int)])
  | .new a => (66, [(a : Int)])
  | .putfield a => (67, [(a : Int)])
  | .aload_n a => (68, [((a : Nat) : Int)])
  | .astore_n a => (69, [((a : Nat) : Int)])
  | .iload_n a => (70, [((a : Nat) : Int)])
  | .istore_n a => (71, [((a : Nat) : Int)])
  | .lload_n a => (72, [((a : Nat) : Int)])
  | .lstore_n a => (73, [((a : Nat) : Int)])
  | .lconst a => (74, [((a : Nat) : Int)])
  | .bipush a => (75, [a])
  | .sipush a => (76, [a])
  | .iconst a => (77, [a])
  | .goto a => (78, [a])
  | .ifnull a => (79, [a])
  | .ifnonnull a => (80, [a])
  | .if_icmp .eq a => (81, [a])
  | .if_icmp .ne a => (82, [a])
  | .if_icmp .lt a => (83, [a])
  | .if_icmp .ge a => (84, [a])
  | .if_icmp .gt a => (85, [a])
  | .if_icmp .le a => (86, [a])
  | .ifCond .eq a => (87, [a])
  | .ifCond .ne a => (88, [a])
  | .ifCond .lt a => (89, [a])
  | .ifCond .ge a => (90, [a])
  | .ifCond .gt a => (91, [a])
  | .ifCond .le a => (92, [a])
  | .if_acmp .eq a => (93, [a])
  | .if_acmp .ne a => (94, [a])
  | .iinc a b => (95, [(a : Int), b])
  | .newarray .boolean => (96, [])
  | .newarray .byte => (97, [])
  | .newarray .short => (98, [])
  | .newarray .int => (99, [])
  | .newarray .long => (100, [])
  | .tableswitch a b c d => (101, a :: b :: c :: d.toList)
  | _ => (999, [])
def ci : Nat → List Int → Option Instr
  | 1, [] => some .aaload
  | 2, [] => some .aastore
  | 3, [] => some .aconst_null
  | 4, [] => some .areturn
  | 5, [] => some .arraylength
  | 6, [] => some .athrow
  | 7, [] => some .baload
  | 8, [] => some .bastore
  | 9, [] => some .dup
  | 10, [] => some .dup_x1
  | 11, [] => some .dup_x2
  | 12, [] => some .dup2
  | 13, [] => some .i2b
  | 14, [] => some .i2c
  | 15, [] => some .i2l
  | 16, [] => some .i2s
  | 17, [] => some .iadd
  | 18, [] => some .iaload
  | 19, [] => some .iand
  | 20, [] => some .iastore
  | 21, [] => some .idiv
  | 22, [] => some .imul
  | 23, [] => some .ineg
  | 24, [] => some .ior
  | 25, [] => some .irem
  | 26, [] => some .ireturn
  | 27, [] => some .ishl
  | 28, [] => some .ishr
  | 29, [] => some .isub
  | 30, [] => some .iushr
  | 31, [] => some .l2i
  | 32, [] => some .ladd
  | 33, [] => some .laload
  | 34, [] => some .land
  | 35, [] => some .lastore
  | 36, [] => some .lcmp
  | 37, [] => some .ldiv
  | 38, [] => some .lmul
  | 39, [] => some .lor
  | 40, [] => some .lrem
  | 41, [] => some .lreturn
  | 42, [] => some .lshl
  | 43, [] => some .lshr
  | 44, [] => some .lsub
  | 45, [] => some .lushr
  | 46, [] => some .pop
  | 47, [] => some .return_
  | 48, [] => some .saload
  | 49, [] => some .sastore
  | 50, [a] => some (.aload a.toNat)
  | 51, [a] => some (.anewarray a.toNat)
  | 52, [a] => some (.astore a.toNat)
  | 53, [a] => some (.checkcast a.toNat)
  | 54, [a] => some (.getfield a.toNat)
  | 55, [a] => some (.getstatic a.toNat)
  | 56, [a] => some (.iload a.toNat)
  | 57, [a] => some (.invokespecial a.toNat)
  | 58, [a] => some (.invokestatic a.toNat)
  | 59, [a] => some (.invokevirtual a.toNat)
  | 60, [a] => some (.istore a.toNat)
  | 61, [a] => some (.ldc a.toNat)
  | 62, [a] => some (.ldc_w a.toNat)
  | 63, [a] => some (.ldc2_w a.toNat)
  | 64, [a] => some (.lload a.toNat)
  | 65, [a] => some (.lstore a.toNat)
  | 66, [a] => some (.new a.toNat)
  | 67, [a] => some (.putfield a.toNat)
  | 68, [a] => some (.aload_n (Fin.ofNat 4 a.toNat))
  | 69, [a] => some (.astore_n (Fin.ofNat 4 a.toNat))
  | 70, [a] => some (.iload_n (Fin.ofNat 4 a.toNat))
  | 71, [a] => some (.istore_n (Fin.ofNat 4 a.toNat))
  | 72, [a] => some (.lload_n (Fin.ofNat 4 a.toNat))
  | 73, [a] => some (.lstore_n (Fin.ofNat 4 a.toNat))
  | 74, [a] => some (.lconst (Fin.ofNat 2 a.toNat))
  | 75, [a] => some (.bipush a)
  | 76, [a] => some (.sipush a)
  | 77, [a] => some (.iconst a)
  | 78, [a] => some (.goto a)
  | 79, [a] => some (.ifnull a)
  | 80, [a] => some (.ifnonnull a)
  | 81, [a] => some (.if_icmp .eq a)
  | 82, [a] => some (.if_icmp .ne a)
  | 83, [a] => some (.if_icmp .lt a)
  | 84, [a] => some (.if_icmp .ge a)
  | 85, [a] => some (.if_icmp .gt a)
  | 86, [a] => some (.if_icmp .le a)
  | 87, [a] => some (.ifCond .eq a)
  | 88, [a] => some (.ifCond .ne a)
  | 89, [a] => some (.ifCond .lt a)
  | 90, [a] => some (.ifCond .ge a)
  | 91, [a] => some (.ifCond .gt a)
  | 92, [a] => some (.ifCond .le a)
  | 93, [a] => some (.if_acmp .eq a)
  | 94, [a] => some (.if_acmp .ne a)
  | 95, [a, b] => some (.iinc a.toNat b)
  | 96, [] => some (.newarray .boolean)
  | 97, [] => some (.newarray .byte)
  | 98, [] => some (.newarray .short)
  | 99, [] => some (.newarray .int)
  | 100, [] => some (.newarray .long)
  | 101, a :: b :: c :: d => some (.tableswitch a b c d.toArray)
  | _, _ => none
theorem ci_ic (i : Instr) (h : (ic i).1 ≠ 999) : ci (ic i).1 (ic i).2 = some i := by
  cases i with
  | aaload => rfl
  | aastore => rfl
  | aconst_null => rfl
  | areturn => rfl
  | arraylength => rfl
  | athrow => rfl
  | baload => rfl
  | bastore => rfl
  | dup => rfl
  | dup_x1 => rfl
  | dup_x2 => rfl
  | dup2 => rfl
  | i2b => rfl
  | i2c => rfl
  | i2l => rfl
  | i2s => rfl
  | iadd => rfl
  | iaload => rfl
  | iand => rfl
  | iastore => rfl
  | idiv => rfl
  | imul => rfl
  | ineg => rfl
  | ior => rfl
  | irem => rfl
  | ireturn => rfl
  | ishl => rfl
  | ishr => rfl
  | isub => rfl
  | iushr => rfl
  | l2i => rfl
  | ladd => rfl
  | laload => rfl
  | land => rfl
  | lastore => rfl
  | lcmp => rfl
  | ldiv => rfl
  | lmul => rfl
  | lor => rfl
  | lrem => rfl
  | lreturn => rfl
  | lshl => rfl
  | lshr => rfl
  | lsub => rfl
  | lushr => rfl
  | pop => rfl
  | return_ => rfl
  | saload => rfl
  | sastore => rfl
  | aload a => rfl
  | anewarray a => rfl
  | astore a => rfl
  | checkcast a => rfl
  | getfield a => rfl
  | getstatic a => rfl
  | iload a => rfl
  | invokespecial a => rfl
  | invokestatic a => rfl
  | invokevirtual a => rfl
  | istore a => rfl
  | ldc a => rfl
  | ldc_w a => rfl
  | ldc2_w a => rfl
  | lload a => rfl
  | lstore a => rfl
  | new a => rfl
  | putfield a => rfl
  | aload_n a => exact congrArg (fun z => some (Instr.aload_n z)) (fin_of4 a)
  | astore_n a => exact congrArg (fun z => some (Instr.astore_n z)) (fin_of4 a)
  | iload_n a => exact congrArg (fun z => some (Instr.iload_n z)) (fin_of4 a)
  | istore_n a => exact congrArg (fun z => some (Instr.istore_n z)) (fin_of4 a)
  | lload_n a => exact congrArg (fun z => some (Instr.lload_n z)) (fin_of4 a)
  | lstore_n a => exact congrArg (fun z => some (Instr.lstore_n z)) (fin_of4 a)
  | lconst a => exact congrArg (fun z => some (Instr.lconst z)) (fin_of2 a)
  | bipush a => rfl
  | sipush a => rfl
  | iconst a => rfl
  | goto a => rfl
  | ifnull a => rfl
  | ifnonnull a => rfl
  | if_icmp c a => cases c <;> rfl
  | ifCond c a => cases c <;> rfl
  | if_acmp c a => cases c <;> rfl
  | iinc a b => rfl
  | newarray t => cases t <;> first | rfl | exact absurd rfl h
  | tableswitch a b c d => rfl
  | _ => exact absurd rfl h
def ieq (j i : Instr) : Bool := decide ((ic j).1 = (ic i).1 ∧ (ic j).1 ≠ 999 ∧ (ic j).2 = (ic i).2)
theorem ieq_ok {j i : Instr} (h : ieq j i = true) : j = i := by
  obtain ⟨h1, h2, h3⟩ := of_decide_eq_true h
  have a := ci_ic j h2
  have b := ci_ic i (by rw [← h1]; exact h2)
  rw [h1, h3] at a
  exact Option.some.inj (a.symm.trans b)
def ieq2 (j i : Instr) : Bool := match i with
  | .lookupswitch .. => decide (j = i)
  | _ => ieq j i
theorem ieq2_ok {j i : Instr} (h : ieq2 j i = true) : j = i := by
  unfold ieq2 at h
  split at h
  · exact of_decide_eq_true h
  · exact ieq_ok h
def pfx : List Nat → List UInt8 → Option (List UInt8)
  | [], l => some l
  | b :: bs, c :: cs => if c.toNat = b then pfx bs cs else none
  | _ :: _, [] => none
theorem pfx_ok {code : ByteArray} : ∀ {bs : List Nat} {pc : Nat} {l l' : List UInt8}, l = code.data.toList.drop pc → pfx bs l = some l' → Bs code pc bs ∧ l' = code.data.toList.drop (pc + bs.length)
  | [], pc, l, l', h, hp => by
    simp only [pfx, Option.some.injEq] at hp
    exact ⟨trivial, by rw [← hp, h]; rfl⟩
  | b :: bs, pc, [], l', h, hp => by simp [pfx] at hp
  | b :: bs, pc, c :: cs, l', h, hp => by
    simp only [pfx] at hp
    split at hp
    · rename_i hb
      have h1 : code.data.toList[pc]? = some c := by
        have := congrArg (fun l => l[0]?) h
        simp only [List.getElem?_cons_zero, List.getElem?_drop, Nat.add_zero] at this
        exact this.symm
      have h2 : cs = code.data.toList.drop (pc + 1) := by
        have := congrArg (List.drop 1) h
        simp only [List.drop_succ_cons, List.drop_zero, List.drop_drop] at this
        exact this
      obtain ⟨h3, h4⟩ := pfx_ok h2 hp
      refine ⟨⟨?_, h3⟩, ?_⟩
      · unfold Bt; rw [h1]; simp [hb]
      · rw [h4, List.length_cons]; congr 1; omega
    · cases hp
def chkS (k o : Nat) (md : Bool) : List UInt8 → Nat → List E → Bool
  | _, _, [] => true
  | bl, pc, (i, m, x) :: es => match i with
    | .nop => decide (x = [pc])
    | i => match enc i with
      | [] => (match decode (mC k) pc with
        | .ok (j, l) => ieq2 j i && chkE k o pc md i l m x && chkS k o md (bl.drop l) (pc + l) es
        | .error _ => false)
      | b :: bs => (match pfx (b :: bs) bl with
        | some bl' => chkE k o pc md i (bs.length + 1) m x && chkS k o md bl' (pc + (bs.length + 1)) es
        | none => false)
def chkQ (k o : Nat) (md : Bool) (pc : Nat) (es : List E) : Bool := chkS k o md ((mC k).data.toList.drop pc) pc es
def chkM (k o : Nat) (md : Bool) (c : List (Nat × List E)) : Bool := hokB k o && c.all (fun q => chkQ k o md q.1 q.2)
