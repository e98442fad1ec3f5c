set_option maxRecDepth 100000
theorem NB_t {β : Int → Int} {D : Int → Prop} {c : Int} {u w w1 : Mem} {M : List (Int × List Int)} (N : NB β D c u w M) (e : ∀ a j, 52 ≤ a → a ≤ 54 → w1 a j = w a j) : NB β D c u w1 M := by
  obtain ⟨n1, n2, n3, n4, n5, n6⟩ := N
  refine ⟨fun y hy => ?_, n2, fun x a b => by rw [e _ _ (by omega) (by omega)]; exact n3 x a b, by rw [smi_c (g := w 54) (fun k _ _ => e _ _ (by omega) (by omega))]; exact n4, fun k q => by rw [e _ _ (by omega) (by omega)]; exact n5 k q, fun j hj => ?_⟩
  · obtain ⟨y1, y2, y3, y4, y5⟩ := n1 y hy
    exact ⟨y1, y2, by rw [e _ _ (by omega) (by omega)]; exact y3, by rw [e _ _ (by omega) (by omega)]; exact y4, BM_t y5 (fun i _ => e _ _ (by omega) (by omega))⟩
  · obtain ⟨f1, f2, f3⟩ := n6 j hj
    exact ⟨by rw [e _ _ (by omega) (by omega)]; exact f1, by rw [e _ _ (by omega) (by omega)]; exact f2, fun i i0 i1 => by rw [e _ _ (by omega) (by omega)]; exact f3 i i0 i1⟩
section
variable {n m : Int} {h w : Mem}
theorem p_found {p : Int} (R : RST h w) : J2 (fun Q => T gC 52 [vR 1 17, vI p] n h Q) (fun Q => T gM 311 [vR 33 17, vI p] m w Q) (PST n m h w) := by
  refine J_impL (fun Q hq => T_go (md := true) [some (vR 1 17), some (vI p), none, none, none, none, none, none, none, none] [] 99 (by decide) rfl (Nat.le_of_ble_eq_true rfl) GC FC rfl k52 hq) ?_
  refine J_impR (fun Q hq => T_go (md := true) [some (vR 33 17), some (vI p), none, none, none] [] 99 (by decide) rfl (Nat.le_of_ble_eq_true rfl) GM FM rfl k311 hq) ?_
  simp -implicitDefEqProofs only [r_iconst, r_bipush, r_sipush, r_ldc, r_ldc_w, r_lconst, r_ldc2_w, r_aconst_null, r_iload, r_iload_n, r_lload, r_lload_n, r_aload, r_aload_n, r_istore, r_istore_n, r_lstore, r_lstore_n, r_astore, r_astore_n, r_iinc, r_iadd, r_iaddW, r_isub, r_isubW, r_imul, r_imulW, r_ladd, r_laddW, r_lsub, r_lsubW, r_lmul, r_lmulW, r_iand, r_ior, r_ishl, r_ishr, r_iushr, r_land, r_lor, r_lshl, r_lshr, r_lushr, r_idiv, r_irem, r_ldiv, r_lrem, r_lcmp, r_ineg, r_i2l, r_l2i, r_i2b, r_i2s, r_i2c, r_dup, r_pop, r_dup_x1, r_dup_x2, r_dup2, r_dup2L, r_icmp_eq, r_icmp_ne, r_icmp_lt, r_icmp_ge, r_icmp_gt, r_icmp_le, r_if_eq, r_if_ne, r_if_lt, r_if_ge, r_if_gt, r_if_le, r_acmp_eq, r_acmp_ne, r_ifnull, r_ifnonnull, r_goto, r_nop, r_tsw, r_lsw, r_getfield, r_getfinal, r_putfield, r_getstaticL, r_getstaticR, r_iaload, r_baload, r_saload, r_laload, r_aaload, r_aaloadM, r_iastore, r_bastore, r_zastore, r_sastore, r_lastore, r_aastore, r_alen, r_new, r_newarray, r_anewarray, r_invV, r_invI, r_objI, r_invS, r_acp, r_ireturn, r_zreturn, r_lreturn, r_return, r_areturn, r_athrow, ↓e_pI, ↓e_pL, ↓e_pR, ↓e_lg0, ↓e_lg1, ↓e_tk0, ↓e_tkI0, ↓e_tkI1, ↓e_tkI2, ↓e_tkI3, ↓e_tkI4, ↓e_tkL, ↓e_tkR0_0, ↓e_tkR0_1, ↓e_tkR1_0, ↓e_tkR1_1, ↓e_tkR2_0, ↓e_tkR2_1, ↓e_tkR3_0, ↓e_tkR3_1, ↓e_tkR4_0, ↓e_tkR4_1, ↓e_tkR5_0, ↓e_tkR5_1, ↓e_tkR6_0, ↓e_tkR6_1, ↓e_tkR7_0, ↓e_tkR7_1, ↓e_tkR8_0, ↓e_tkR8_1, ↓e_tkR9_0, ↓e_tkR9_1, ↓e_tkR10_0, ↓e_tkR10_1, ↓e_tkR11_0, ↓e_tkR11_1, ↓e_tkR12_0, ↓e_tkR12_1, ↓e_tkR13_0, ↓e_tkR13_1, ↓e_tkR14_0, ↓e_tkR14_1, ↓e_tkR15_0, ↓e_tkR15_1, ↓e_tkR16_0, ↓e_tkR16_1, ↓e_tkR17_0, ↓e_tkR17_1, ↓e_tkR39_0, ↓e_tkR39_1, ↓e_tkR40_0, ↓e_tkR40_1, ↓e_tkR41_0, ↓e_tkR41_1, ↓e_tkR42_0, ↓e_tkR42_1, ↓e_tkR43_0, ↓e_tkR43_1, ↓e_tkR44_0, ↓e_tkR44_1, ↓e_tkR45_0, ↓e_tkR45_1, ↓e_tkR46_0, ↓e_tkR46_1, ↓e_tkR47_0, ↓e_tkR47_1, ↓e_tkR48_0, ↓e_tkR48_1, ↓e_pv0, ↓e_pv1, ↓e_pv2, ↓e_pv3, ↓e_pv5, ↓e_pvR, ↓e_tsw0, ↓e_tsw1, ↓e_lsw0, ↓e_lsw1, e_kq100, e_kq0, e_kq3, e_kq5, e_kqR0, e_kqR1, e_kqR2, e_kqR3, e_kqR4, e_kqR5, e_kqR6, e_kqR7, e_kqR8, e_kqR9, e_kqR10, e_kqR11, e_kqR12, e_kqR13, e_kqR14, e_kqR15, e_kqR16, e_kqR17, e_kqR39, e_kqR40, e_kqR41, e_kqR42, e_kqR43, e_kqR44, e_kqR45, e_kqR46, e_kqR47, e_kqR48, e_st0I, e_st0R, e_st0L, e_st1N, e_st1I, e_st1L, e_st1R, e_st2, e_wd0, e_wdI, e_wdL, e_wdR, e_c1I, e_c1R, e_gv0, e_gv1, e_gv2, e_gv3, e_gv4, e_gv5, e_gvR0, e_gvR1, e_gvR2, e_gvR3, e_gvR4, e_gvR5, e_gvR6, e_gvR7, e_gvR8, e_gvR9, e_gvR10, e_gvR11, e_gvR12, e_gvR13, e_gvR14, e_gvR15, e_gvR16, e_gvR17, e_gvR39, e_gvR40, e_gvR41, e_gvR42, e_gvR43, e_gvR44, e_gvR45, e_gvR46, e_gvR47, e_gvR48, e_kX0, e_kX1, e_kVv, e_kVx, e_kIv, e_kIx, e_kLv, e_kLx, e_kRv, e_kRx, e_thr, e_lk1, e_ic0, e_ic1, e_jm, st_ap, clr_ap, e_lceq, e_lclt, e_lcgt, nn, ↓reduceIte, Nat.reduceDiv, Nat.reduceMod, Nat.reduceMul, Nat.reduceAdd, Nat.reduceEqDiff, Nat.reduceLeDiff, Int.reduceNatCast, Int.cast_ofNat_Int, Int.reduceSub, Int.reduceMul, Int.reduceNeg, Int.reduceAdd, Int.reduceLE, Int.reduceLT, Int.reduceEq, Int.reduceNe, true_and, and_true, true_or, and_self, ne_eq, not_false_eq_true, Bool.false_eq_true, reduceCtorEq, rd_l1, rd_l2, rd_l3, rd_l4, rd_l5, rd_l6, rd_l7, rd_l8, rd_l9, SB, rd_ge, i2b_2, false_and, and_false, not_true_eq_false, l52_0, l52_9, l52_281, l52_282, l52_300, l52_302, s52_0, s52_9, s52_281, s52_282, s52_300, s52_302, l311_0, l311_9, l311_235, l311_237, s311_0, s311_9, s311_235, s311_237, zC_18, zC_20, zC_21, zC_22, zC_23, zC_25, zC_26, zC_253, zC_254, zC_256, zC_257, zC_259, zC_260, zC_262, zC_263, zC_265, zC_266, zC_268, zC_269, zC_271, zC_272, zC_274, zC_275, zC_278, zC_279, zC_280, zC_281, zC_282, zC_284, zC_285, zC_287, zC_288, zC_290, zC_291, zC_293, zC_294, zC_296, zC_297, zC_299, zC_300, zC_302, zC_303, zC_304, zC_305, zC_306, zC_307, zC_308, zC_309, zC_310, zC_311, zC_312, zC_315, zC_316, zC_317, zC_319, zC_320, zC_321, zC_323, zC_324, zC_325, zC_327, zC_328, zC_329, zC_331, zC_332, zC_333, zC_335, zC_336, zC_337, zC_339, zC_340, zC_341, zC_343, zC_344, zC_345, zC_347, zC_348, zC_349, zC_350, zC_351, zC_352, zC_353, zC_354, zC_355, zC_356, zC_357, zC_358, zC_359, zC_361, zC_362, zC_363, zC_364, zC_367, zC_368, zC_369, zC_370, zC_371, zC_372, zC_373, zC_374, zC_375, zC_376, zC_378, zC_380, zC_381, zC_383, zC_384, zC_386, zC_387, zC_389, zC_390, zC_391, zC_392, zC_393, zC_394, zC_395, zC_396, zC_397, zC_398, zC_400, zC_402, zC_403, zC_405, zC_407, zC_409, zC_411, zC_413, zC_415, zC_417, zC_420, zC_421, zC_422, zC_423, zC_424, zC_425, zC_427, zC_429, zC_431, zC_433, zC_436, zC_437, zC_438, zC_439, zC_440, zC_441, zC_442, zC_443, zC_444, zC_445, zC_447, zC_448, zC_450, zC_451, zC_453, zC_454, zC_455, zC_456, zC_457, zC_458, zC_460, zC_461, zC_462, zC_463, zC_464, zC_465, zC_466, zC_467, zC_468, zC_469, zC_471, zC_473, zC_474, zC_476, zC_477, zC_478, zC_479, zC_480, zC_481, zC_482, zC_483, zC_484, zC_485, zC_487, zC_489, zC_490, zC_491, zC_493, zC_495, zC_497, zC_499, zM_18, zM_19, zM_20, zM_21, zM_22, zM_23, zM_24, zM_25, zM_26, zM_27, zM_28, zM_29, zM_30, zM_31, zM_32, zM_33, zM_34, zM_35, zM_36, zM_37, zM_38, zM_39, zM_40, zM_41, zM_42, zM_43, zM_44, zM_45, zM_46, zM_47, zM_48, zM_49, zM_50, zM_51, zM_52, zM_53, zM_54, zM_55, zM_56, zM_57, zM_58, zM_59, zM_60, zM_61, zM_62, zM_63, zM_64, zM_65, zM_66, zM_67, zM_68, zM_69, zM_70, zM_71, zM_72, zM_73, zM_74, zM_75, zM_76, zM_77, zM_78, zM_79, zM_80, zM_81, zM_82, zM_83, zM_84, zM_85, zM_86, zM_87, zM_88, zM_89, zM_90, zM_91, zM_92, zM_93, zM_94, zM_95, zM_96, zM_97, zM_98, zM_99, zM_100, zM_101, zM_102, zM_103, zM_104, zM_105, zM_106, zM_107, zM_108, zM_109, zM_110, zM_111, zM_112, zM_113, zM_114, zM_115, zM_116, zM_117, zM_118, zM_119]
  refine J_LI (c_isPlace _) (J_RI (m_isPlace _) ?_)
  by_cases gp : 0 ≤ p ∧ p ≤ 3
  · rw [bz_t gp]
    repeat (first | refine J_andL (by first | omega | (constructor <;> omega)) ?_ | refine J_andR (by first | omega | (constructor <;> omega)) ?_ | refine J_posL (by first | omega | (constructor <;> omega)) ?_ | refine J_negL (by first | omega | (constructor <;> omega)) ?_ | refine J_posR (by first | omega | (constructor <;> omega)) ?_ | refine J_negR (by first | omega | (constructor <;> omega)) ?_)
    obtain ⟨β, RB⟩ := id R
    refine p_keep RB ?_
    intro h1 w1 C1 F1 G1
    simp only [e_kVv]
    have zz9 : ∀ k : Int, 0 ≤ k ∧ k < 112 → ((gC.1 (28 + 2 * k + 1)).2 : Int) = 12000 := fun k k0 => by rw [show 28 + 2 * k + 1 = 29 + 2 * k by omega, bsz k0]; rfl
    obtain ⟨k1, h2, k10, ev, C2, M2, E2⟩ := mb_fresh (n := n) (M := []) C1 ⟨fun y hy => (List.not_mem_nil hy).elim, List.nodup_nil⟩ (by omega)
    refine J_LR ev ?_
    obtain ⟨k2, h3, k20, ev, C3, M3, E3⟩ := mb_fresh (n := n) C2 M2 (by omega)
    refine J_LR ev ?_
    refine c_mk_head (by omega) (zz9 k2 k20) (M3.1 _ (List.mem_cons_self ..)).2.2.2 ?_
    intro h4 B4 F4
    obtain ⟨C4, M4, E4⟩ := mb_by C3 M3 F4 B4
    obtain ⟨k3, h5, k30, ev, C5, M5, E5⟩ := mb_fresh (n := n) C4 M4 (by omega)
    refine J_LR ev ?_
    refine c_mk_hhea (by omega) (zz9 k3 k30) (M5.1 _ (List.mem_cons_self ..)).2.2.2 ?_
    intro h6 B6 F6
    obtain ⟨C6, M6, E6⟩ := mb_by C5 M5 F6 B6
    obtain ⟨k4, h7, k40, ev, C7, M7, E7⟩ := mb_fresh (n := n) C6 M6 (by omega)
    refine J_LR ev ?_
    obtain ⟨h8, ev, B8, F8⟩ := c_fill (n := n) (x := 4) (by omega : 28 + 2 * k4 ≠ 0) (by have := zz9 k4 k40; omega) (M7.1 _ (List.mem_cons_self ..)).2.2.2 (by omega) (by have := zz9 k4 k40; show ((0 : Nat) : Int) + 4 ≤ _; omega)
    obtain ⟨C8, M8, E8⟩ := mb_by C7 M7 F8 B8
    refine J_LV ev ?_
    obtain ⟨k5, h9, k50, ev, C9, M9, E9⟩ := mb_fresh (n := n) C8 M8 (by omega)
    refine J_LR ev ?_
    obtain ⟨hA, ev, BA, FA⟩ := c_fill (n := n) (x := 8) (by omega : 28 + 2 * k5 ≠ 0) (by have := zz9 k5 k50; omega) (M9.1 _ (List.mem_cons_self ..)).2.2.2 (by omega) (by have := zz9 k5 k50; show ((0 : Nat) : Int) + 8 ≤ _; omega)
    obtain ⟨CA, MA, EA⟩ := mb_by C9 M9 FA BA
    refine J_LV ev ?_
    obtain ⟨k6, hB, k60, ev, CB, MB9, EB⟩ := mb_fresh (n := n) CA MA (by omega)
    refine J_LR ev ?_
    refine c_mk_maxp (by omega) (zz9 k6 k60) (MB9.1 _ (List.mem_cons_self ..)).2.2.2 ?_
    intro hC BC FC
    obtain ⟨CC, MC, EC⟩ := mb_by CB MB9 FC BC
    have e26 : hC 26 p = 252 + 6 * p := CC.2.1.2.1 p gp.1 (by omega)
    rw [e26]
    repeat (first | refine J_andL (by first | omega | (constructor <;> omega)) ?_ | refine J_andR (by first | omega | (constructor <;> omega)) ?_ | refine J_posL (by first | omega | (constructor <;> omega)) ?_ | refine J_negL (by first | omega | (constructor <;> omega)) ?_ | refine J_posR (by first | omega | (constructor <;> omega)) ?_ | refine J_negR (by first | omega | (constructor <;> omega)) ?_)
    refine J_LV c_fbegin ?_
    have z := (fsz6 (p := p) (by omega)).1
    have H0 : FL (st (st (st hC (252 + 6 * p) 0 1) (252 + 6 * p) 1 65536) (252 + 6 * p) 2 0) (252 + 6 * p) [] := ⟨by rw [st_eq]; rfl, fun i y hy => by cases hy⟩
    have H1 : (st (st (st hC (252 + 6 * p) 0 1) (252 + 6 * p) 1 65536) (252 + 6 * p) 2 0) (252 + 6 * p) 0 = 1 ∧ (st (st (st hC (252 + 6 * p) 0 1) (252 + 6 * p) 1 65536) (252 + 6 * p) 2 0) (252 + 6 * p) 1 = 65536 := ⟨by rw [st_nj (by omega), st_nj (by omega), st_eq], by rw [st_nj (by omega), st_eq]⟩
    have H2 : Fz (fun a j => (a = 252 + 6 * p ∧ 0 ≤ j ∧ j < 3) ∨ a = 252 + 6 * p + 1 ∨ a = 252 + 6 * p + 2) hC (st (st (st hC (252 + 6 * p) 0 1) (252 + 6 * p) 1 65536) (252 + 6 * p) 2 0) := Fz_st (Fz_st (Fz_st Fz_0 (by omega)) (by omega)) (by omega)
    revert H0 H1 H2
    generalize (st (st (st hC (252 + 6 * p) 0 1) (252 + 6 * p) 1 65536) (252 + 6 * p) 2 0) = hD
    intro H0 H1 H2
    obtain ⟨g1, ev, L1, P1⟩ := c_putA (n := n) (v := 1735162214) (x := 28 + 2 * k1) (by omega) z H0 (by decide) (by omega) (fun y hy => (List.not_mem_nil hy).elim)
    repeat (first | refine J_andL (by first | omega | (constructor <;> omega)) ?_ | refine J_andR (by first | omega | (constructor <;> omega)) ?_ | refine J_posL (by first | omega | (constructor <;> omega)) ?_ | refine J_negL (by first | omega | (constructor <;> omega)) ?_ | refine J_posR (by first | omega | (constructor <;> omega)) ?_ | refine J_negR (by first | omega | (constructor <;> omega)) ?_)
    refine J_LI ev ?_
    repeat (first | refine J_andL (by first | omega | (constructor <;> omega)) ?_ | refine J_andR (by first | omega | (constructor <;> omega)) ?_ | refine J_posL (by first | omega | (constructor <;> omega)) ?_ | refine J_negL (by first | omega | (constructor <;> omega)) ?_ | refine J_posR (by first | omega | (constructor <;> omega)) ?_ | refine J_negR (by first | omega | (constructor <;> omega)) ?_)
    obtain ⟨g2, ev, L2, P2⟩ := c_putA (n := n) (v := 1751474532) (x := 28 + 2 * k2) (by omega) z L1 (by simp) (by omega) (by simp; omega)
    refine J_LI ev ?_
    repeat (first | refine J_andL (by first | omega | (constructor <;> omega)) ?_ | refine J_andR (by first | omega | (constructor <;> omega)) ?_ | refine J_posL (by first | omega | (constructor <;> omega)) ?_ | refine J_negL (by first | omega | (constructor <;> omega)) ?_ | refine J_posR (by first | omega | (constructor <;> omega)) ?_ | refine J_negR (by first | omega | (constructor <;> omega)) ?_)
    obtain ⟨g3, ev, L3, P3⟩ := c_putA (n := n) (v := 1751672161) (x := 28 + 2 * k3) (by omega) z L2 (by simp) (by omega) (by simp; omega)
    refine J_LI ev ?_
    repeat (first | refine J_andL (by first | omega | (constructor <;> omega)) ?_ | refine J_andR (by first | omega | (constructor <;> omega)) ?_ | refine J_posL (by first | omega | (constructor <;> omega)) ?_ | refine J_negL (by first | omega | (constructor <;> omega)) ?_ | refine J_posR (by first | omega | (constructor <;> omega)) ?_ | refine J_negR (by first | omega | (constructor <;> omega)) ?_)
    obtain ⟨g4, ev, L4, P4⟩ := c_putA (n := n) (v := 1752003704) (x := 28 + 2 * k4) (by omega) z L3 (by simp) (by omega) (by simp; omega)
    refine J_LI ev ?_
    repeat (first | refine J_andL (by first | omega | (constructor <;> omega)) ?_ | refine J_andR (by first | omega | (constructor <;> omega)) ?_ | refine J_posL (by first | omega | (constructor <;> omega)) ?_ | refine J_negL (by first | omega | (constructor <;> omega)) ?_ | refine J_posR (by first | omega | (constructor <;> omega)) ?_ | refine J_negR (by first | omega | (constructor <;> omega)) ?_)
    obtain ⟨g5, ev, L5, P5⟩ := c_putA (n := n) (v := 1819239265) (x := 28 + 2 * k5) (by omega) z L4 (by simp) (by omega) (by simp; omega)
    refine J_LI ev ?_
    repeat (first | refine J_andL (by first | omega | (constructor <;> omega)) ?_ | refine J_andR (by first | omega | (constructor <;> omega)) ?_ | refine J_posL (by first | omega | (constructor <;> omega)) ?_ | refine J_negL (by first | omega | (constructor <;> omega)) ?_ | refine J_posR (by first | omega | (constructor <;> omega)) ?_ | refine J_negR (by first | omega | (constructor <;> omega)) ?_)
    obtain ⟨g6, ev, L6, P6⟩ := c_putA (n := n) (v := 1835104368) (x := 28 + 2 * k6) (by omega) z L5 (by simp) (by omega) (by simp; omega)
    refine J_LI ev ?_
    repeat (first | refine J_andL (by first | omega | (constructor <;> omega)) ?_ | refine J_andR (by first | omega | (constructor <;> omega)) ?_ | refine J_posL (by first | omega | (constructor <;> omega)) ?_ | refine J_negL (by first | omega | (constructor <;> omega)) ?_ | refine J_posR (by first | omega | (constructor <;> omega)) ?_ | refine J_negR (by first | omega | (constructor <;> omega)) ?_)
    -- the model
    obtain ⟨l1, l2, l3, l4, l5⟩ := CC.2.2.2.2.1
    have S0 : GL (st (st (st w1 55 p 1) 56 p 65536) 57 p 0) p [] := ⟨by rw [st_eq]; rfl, fun i y hy => by cases hy⟩
    have N0 : NB β (bsy h) 0 w1 (st (st (st w1 55 p 1) 56 p 65536) 57 p 0) [] := ⟨fun y hy => (List.not_mem_nil hy).elim, List.nodup_nil, fun x a b => by rw [st_na (by omega), st_na (by omega), st_na (by omega)]; exact l3 x a b, by rw [smi_c (g := w1 54) (fun k _ _ => by rw [st_na (by omega), st_na (by omega), st_na (by omega)])]; exact l5, fun k q => by rw [st_na (by omega), st_na (by omega), st_na (by omega)]; exact (l1 k q).2, fun j _ => ⟨by rw [st_na (by omega), st_na (by omega), st_na (by omega)], by rw [st_na (by omega), st_na (by omega), st_na (by omega)], fun i _ _ => by rw [st_na (by omega), st_na (by omega), st_na (by omega)]⟩⟩
    have S1 : (st (st (st w1 55 p 1) 56 p 65536) 57 p 0) 55 p = 1 ∧ (st (st (st w1 55 p 1) 56 p 65536) 57 p 0) 56 p = 65536 := ⟨by rw [st_na (by omega), st_na (by omega), st_eq], by rw [st_na (by omega), st_eq]⟩
    have S2 : Fz (fun a j => ((a = 55 ∨ a = 56 ∨ a = 57) ∧ j = p) ∨ ((a = 58 ∨ a = 59) ∧ 16 * p ≤ j ∧ j < 16 * p + 16)) w1 (st (st (st w1 55 p 1) 56 p 65536) 57 p 0) := Fz_st (Fz_st (Fz_st Fz_0 (by omega)) (by omega)) (by omega)
    revert S0 N0 S1 S2
    generalize (st (st (st w1 55 p 1) 56 p 65536) 57 p 0) = wS
    intro S0 N0 S1 S2
    obtain ⟨b1, w2, b10, ev, N1, T1⟩ := nb_fresh (m := m) 54 (by omega) N0 (fun y hy => (List.not_mem_nil hy).elim) (by omega)
    refine J_RI ev ?_
    refine m_mk_head b10 (N1.1 _ (List.mem_cons_self ..)).2.2.2.2 ?_
    intro w3 B3 G3
    have N2 := nb_by N1 (fun y hy => (List.not_mem_nil hy).elim) (by omega) G3 B3 (by decide)
    obtain ⟨b2, w4, b20, ev, N3, T2⟩ := nb_fresh (m := m) 36 (by omega) N2 (by simp [l_head]) (by omega)
    refine J_RI ev ?_
    refine m_mk_hhea b20 (N3.1 _ (List.mem_cons_self ..)).2.2.2.2 ?_
    intro w5 B5 G5
    have N4 := nb_by N3 (by simp [l_head]) (by omega) G5 B5 (by decide)
    obtain ⟨b3, w6, b30, ev, N5, T3⟩ := nb_fresh (m := m) 6 (by omega) N4 (by simp [l_head, l_hhea]) (by omega)
    refine J_RI ev ?_
    refine m_mk_maxp b30 (N5.1 _ (List.mem_cons_self ..)).2.2.2.2 ?_
    intro w7 B7 G7
    have N6 := nb_by N5 (by simp [l_head, l_hhea]) (by omega) G7 B7 (by decide)
    have U7 : ∀ a j, (a < 52 ∨ 54 < a) → w7 a j = wS a j := fun a j g => by
      rw [G7 _ _ (by unfold bmM; omega), T3 a j g, G5 _ _ (by unfold bmM; omega), T2 a j g, G3 _ _ (by unfold bmM; omega), T1 a j g]
    have S7 : GL w7 p ([] ++ []) := ⟨by rw [U7 _ _ (by omega)]; exact S0.1, fun i y hy => by cases hy⟩
    obtain ⟨q1, ev, V1, W1⟩ := m_giveL (m := m) (v := 1751474532) (x := b1) (L := []) (R := []) (by omega) S7 (by decide) (by simp) (by simp)
    refine J_RV ev ?_
    obtain ⟨q2, ev, V2, W2⟩ := m_giveL (m := m) (w := q1) (v := 1751672161) (x := b2) (L := [(1751474532, b1)]) (R := []) (by omega) V1 (by simp) (by simp) (by simp)
    refine J_RV ev ?_
    obtain ⟨q3, ev, V3, W3⟩ := m_giveL (m := m) (w := q2) (v := 1835104368) (x := b3) (L := [(1751474532, b1), (1751672161, b2)]) (R := []) (by omega) V2 (by simp) (by simp) (by simp)
    refine J_RV ev ?_
    have ml : ∀ y ∈ [(b3, l_maxp), (b2, l_hhea), (b1, l_head)], y.2.length ≤ 12000 := by simp [l_head, l_hhea, l_maxp]
    have N7 := NB_t (w1 := q3) N6 (fun a j x y => by rw [W3 _ _ (by unfold ptM; omega), W2 _ _ (by unfold ptM; omega), W1 _ _ (by unfold ptM; omega)])
    obtain ⟨b4, q4, b40, ev, N8, T4⟩ := nb_fresh (m := m) 0 (by omega) N7 ml (by omega)
    refine J_RI ev ?_
    obtain ⟨q5, ev, V5, W5⟩ := m_giveL (m := m) (w := q4) (p := p) (v := 1735162214) (x := b4) (L := []) (R := [(1751474532, b1), (1751672161, b2), (1835104368, b3)]) (by omega) ⟨by rw [T4 _ _ (by omega)]; exact V3.1, fun i y hy => by rw [T4 _ _ (by omega), T4 _ _ (by omega)]; exact V3.2 i y hy⟩ (by simp) (by simp) (by simp)
    refine J_RV ev ?_
    have N9 := NB_t (w1 := q5) N8 (fun a j x y => by rw [W5 _ _ (by unfold ptM; omega)])
    obtain ⟨b5, q6, b50, ev, NA, T5⟩ := nb_fresh (m := m) 4 (by omega) N9 (by simp [l_head, l_hhea, l_maxp]) (by omega)
    refine J_RI ev ?_
    obtain ⟨q7, ev, V7, W7⟩ := m_giveL (m := m) (w := q6) (p := p) (v := 1752003704) (x := b5) (L := [(1735162214, b4), (1751474532, b1), (1751672161, b2)]) (R := [(1835104368, b3)]) (by omega) ⟨by rw [T5 _ _ (by omega)]; exact V5.1, fun i y hy => by rw [T5 _ _ (by omega), T5 _ _ (by omega)]; exact V5.2 i y hy⟩ (by simp) (by simp) (by simp)
    refine J_RV ev ?_
    have NB1 := NB_t (w1 := q7) NA (fun a j x y => by rw [W7 _ _ (by unfold ptM; omega)])
    obtain ⟨b6, q8, b60, ev, NC, T6⟩ := nb_fresh (m := m) 8 (by omega) NB1 (by simp [l_head, l_hhea, l_maxp]) (by omega)
    refine J_RI ev ?_
    obtain ⟨q9, ev, V9, W9⟩ := m_giveL (m := m) (w := q8) (p := p) (v := 1819239265) (x := b6) (L := [(1735162214, b4), (1751474532, b1), (1751672161, b2), (1752003704, b5)]) (R := [(1835104368, b3)]) (by omega) ⟨by rw [T6 _ _ (by omega)]; exact V7.1, fun i y hy => by rw [T6 _ _ (by omega), T6 _ _ (by omega)]; exact V7.2 i y hy⟩ (by simp) (by simp) (by simp)
    refine J_RV ev ?_
    have nd1 := MC.2
    have nd2 := NC.2.1
    have QG : ∀ a j, (a < 52 ∨ 54 < a) → ¬ (((a = 55 ∨ a = 56 ∨ a = 57) ∧ j = p) ∨ ((a = 58 ∨ a = 59) ∧ 16 * p ≤ j ∧ j < 16 * p + 16)) → q9 a j = w1 a j := fun a j g e => by
      rw [W9 _ _ (by unfold ptM; omega), T6 a j g, W7 _ _ (by unfold ptM; omega), T5 a j g, W5 _ _ (by unfold ptM; omega), T4 a j g, W3 _ _ (by unfold ptM; omega), W2 _ _ (by unfold ptM; omega), W1 _ _ (by unfold ptM; omega), U7 a j g, S2 _ _ e]
    have QS : q9 55 p = wS 55 p ∧ q9 56 p = wS 56 p := ⟨by
      rw [W9 _ _ (by unfold ptM; omega), T6 _ _ (by omega), W7 _ _ (by unfold ptM; omega), T5 _ _ (by omega), W5 _ _ (by unfold ptM; omega), T4 _ _ (by omega), W3 _ _ (by unfold ptM; omega), W2 _ _ (by unfold ptM; omega), W1 _ _ (by unfold ptM; omega), U7 _ _ (by omega)], by
      rw [W9 _ _ (by unfold ptM; omega), T6 _ _ (by omega), W7 _ _ (by unfold ptM; omega), T5 _ _ (by omega), W5 _ _ (by unfold ptM; omega), T4 _ _ (by omega), W3 _ _ (by unfold ptM; omega), W2 _ _ (by unfold ptM; omega), W1 _ _ (by unfold ptM; omega), U7 _ _ (by omega)]⟩
    have HG : Fz (fun a j => (a = 252 + 6 * p ∧ 0 ≤ j ∧ j < 3) ∨ a = 252 + 6 * p + 1 ∨ a = 252 + 6 * p + 2) hC g6 := fun a j g => by
      rw [P6 _ _ (by unfold ptC; omega), P5 _ _ (by unfold ptC; omega), P4 _ _ (by unfold ptC; omega), P3 _ _ (by unfold ptC; omega), P2 _ _ (by unfold ptC; omega), P1 _ _ (by unfold ptC; omega), H2 _ _ g]
    have HS : g6 (252 + 6 * p) 0 = hD (252 + 6 * p) 0 ∧ g6 (252 + 6 * p) 1 = hD (252 + 6 * p) 1 := ⟨by
      rw [P6 _ _ (by unfold ptC; omega), P5 _ _ (by unfold ptC; omega), P4 _ _ (by unfold ptC; omega), P3 _ _ (by unfold ptC; omega), P2 _ _ (by unfold ptC; omega), P1 _ _ (by unfold ptC; omega)], by
      rw [P6 _ _ (by unfold ptC; omega), P5 _ _ (by unfold ptC; omega), P4 _ _ (by unfold ptC; omega), P3 _ _ (by unfold ptC; omega), P2 _ _ (by unfold ptC; omega), P1 _ _ (by unfold ptC; omega)]⟩
    have NQ := NB_t (w1 := q9) NC (fun a j x y => by rw [W9 _ _ (by unfold ptM; omega)])
    have HC9 : Fz stC h hC := fun a j g => by
      have g' : ¬ boC a j := fun z => g (by unfold boC at z; unfold stC; omega)
      rw [EC _ _ g', EB _ _ g', EA _ _ g', E9 _ _ g', E8 _ _ g', E7 _ _ g', E6 _ _ g', E5 _ _ g', E4 _ _ g', E3 _ _ g', E2 _ _ g', F1 _ _ (fun z => g (by unfold olC at z; unfold stC; omega))]
    clear T1 T2 T3 T4 T5 T6 W1 W2 W3 W5 W7 W9 G3 G5 G7 U7 P1 P2 P3 P4 P5 P6 E2 E3 E4 E5 E6 E7 E8 E9 EA EB EC
    obtain ⟨β', D', CJ, J1, J2⟩ := cg_join CC MC NQ [(k1, b4), (k2, b1), (k3, b2), (k4, b5), (k5, b6), (k6, b3)] (fun y hy => by
      simp only [List.mem_cons, List.not_mem_nil, or_false] at hy
      rcases hy with e | e | e | e | e | e
      · subst e; exact ⟨[], by simp, by simp, by decide, by decide⟩
      · subst e; exact ⟨l_head, by simp, by simp, by decide, by decide⟩
      · subst e; exact ⟨l_hhea, by simp, by simp, by decide, by decide⟩
      · subst e; exact ⟨[0, 0, 0, 0], by simp, by simp, by decide, by decide⟩
      · subst e; exact ⟨[0, 0, 0, 0, 0, 0, 0, 0], by simp, by simp, by decide, by decide⟩
      · subst e; exact ⟨l_maxp, by simp, by simp, by decide, by decide⟩) (by
      simp only [List.map_cons, List.map_nil, List.nodup_cons, List.mem_cons, List.not_mem_nil, or_false, not_or] at nd1 ⊢
      simp only [not_false_eq_true, List.nodup_nil, and_true] at nd1 ⊢
      omega) (by
      simp only [List.map_cons, List.map_nil, List.nodup_cons, List.mem_cons, List.not_mem_nil, or_false, not_or] at nd2 ⊢
      simp only [not_false_eq_true, List.nodup_nil, and_true] at nd2 ⊢
      omega)
    have tgq : TG q9 := by
      refine TG_n (p := p) (L := [(1735162214, b4), (1751474532, b1), (1751672161, b2), (1752003704, b5), (1819239265, b6), (1835104368, b3)]) CC.2.2.2.2.2.2.2 V9 (fun q a b c => ⟨QG _ _ (by omega) (by omega), QG _ _ (by omega) (by omega)⟩) (fun j a b c => ⟨QG _ _ (by omega) (by omega), QG _ _ (by omega) (by omega)⟩) (fun q i q0 hq i0 y hy => ?_) ?_
      · obtain ⟨_, f5⟩ := (CC.2.2.2.1 q q0.1 q0.2).2.2 hq
        obtain ⟨_, _, k, d, _, e⟩ := f5 i i0.1 i0.2.1
        rw [e]
        simp only [List.mem_cons, List.not_mem_nil, or_false] at hy
        rcases hy with e | e | e | e | e | e
        · subst e; exact (NQ.1 (b4, []) (by simp)).2.1 k d
        · subst e; exact (NQ.1 (b1, l_head) (by simp)).2.1 k d
        · subst e; exact (NQ.1 (b2, l_hhea) (by simp)).2.1 k d
        · subst e; exact (NQ.1 (b5, [0, 0, 0, 0]) (by simp)).2.1 k d
        · subst e; exact (NQ.1 (b6, [0, 0, 0, 0, 0, 0, 0, 0]) (by simp)).2.1 k d
        · subst e; exact (NQ.1 (b3, l_maxp) (by simp)).2.1 k d
      · simp only [List.map_cons, List.map_nil, List.nodup_cons, List.mem_cons, List.not_mem_nil, or_false, not_or] at nd2 ⊢
        simp only [not_false_eq_true, List.nodup_nil, and_true] at nd2 ⊢
        omega
    have CG := cg_f CJ (by omega : 0 ≤ p ∧ p < 4) HG (w1 := q9) (fun a j g => by
      by_cases e : 52 ≤ a ∧ a ≤ 54
      · rw [gho_b e]
      · rw [gho_o e]; exact QG a j (by omega) g) (fnt_ls [(1735162214, k1, b4), (1751474532, k2, b1), (1751672161, k3, b2), (1752003704, k4, b5), (1819239265, k5, b6), (1835104368, k6, b3)] (by omega) ⟨HS.1.trans H1.1, QS.1.trans S1.1⟩ (by rw [HS.2, H1.2, QS.2, S1.2]) (by simp) L6 V9 (fun y hy => by
      simp only [List.mem_cons, List.not_mem_nil, or_false] at hy
      rcases hy with e | e | e | e | e | e
      · subst e; exact ⟨⟨by simp, by simp⟩, J2 (k1, b4) (by simp)⟩
      · subst e; exact ⟨⟨by simp, by simp⟩, J2 (k2, b1) (by simp)⟩
      · subst e; exact ⟨⟨by simp, by simp⟩, J2 (k3, b2) (by simp)⟩
      · subst e; exact ⟨⟨by simp, by simp⟩, J2 (k4, b5) (by simp)⟩
      · subst e; exact ⟨⟨by simp, by simp⟩, J2 (k5, b6) (by simp)⟩
      · subst e; exact ⟨⟨by simp, by simp⟩, J2 (k6, b3) (by simp)⟩) (by simp)) tgq
    have HF : Fz stC h g6 := fun a j g => by
      rw [HG _ _ (fun z => g (by unfold stC; omega)), HC9 _ _ g]
    have WF : Fz stM w q9 := fun a j g => by
      have g' : ¬ (52 ≤ a ∧ a ≤ 59) := g
      rw [QG a j (by omega) (by omega), G1 _ _ (by unfold kpM; omega)]
    refine p_stands CG ?_ ?_
    · intro hZ RZ FZ
      repeat (first | refine J_andL (by first | omega | (constructor <;> omega)) ?_ | refine J_andR (by first | omega | (constructor <;> omega)) ?_ | refine J_posL (by first | omega | (constructor <;> omega)) ?_ | refine J_negL (by first | omega | (constructor <;> omega)) ?_ | refine J_posR (by first | omega | (constructor <;> omega)) ?_ | refine J_negR (by first | omega | (constructor <;> omega)) ?_)
      exact J_end ⟨⟨_, rfl, rfl⟩, rfl, rfl, ⟨_, RZ⟩, Fz_tr HF (Fz_mo FZ (fun a j g => by unfold ctC at g; unfold stC; omega)), WF⟩
    · intro hZ wZ RZ FZ GZ _
      repeat (first | refine J_andL (by first | omega | (constructor <;> omega)) ?_ | refine J_andR (by first | omega | (constructor <;> omega)) ?_ | refine J_posL (by first | omega | (constructor <;> omega)) ?_ | refine J_negL (by first | omega | (constructor <;> omega)) ?_ | refine J_posR (by first | omega | (constructor <;> omega)) ?_ | refine J_negR (by first | omega | (constructor <;> omega)) ?_)
      exact J_end ⟨⟨_, rfl, rfl⟩, rfl, rfl, ⟨_, RZ⟩, Fz_tr HF (Fz_mo FZ (fun a j g => by unfold nsC ctC fnC at g; unfold stC; omega)), Fz_tr WF (Fz_mo GZ (fun a j g => by unfold unM at g; unfold stM; omega))⟩
  · rw [bz_f gp]
    repeat (first | refine J_andL (by first | omega | (constructor <;> omega)) ?_ | refine J_andR (by first | omega | (constructor <;> omega)) ?_ | refine J_posL (by first | omega | (constructor <;> omega)) ?_ | refine J_negL (by first | omega | (constructor <;> omega)) ?_ | refine J_posR (by first | omega | (constructor <;> omega)) ?_ | refine J_negR (by first | omega | (constructor <;> omega)) ?_)
    exact J_end ⟨⟨_, rfl, rfl⟩, rfl, rfl, R, Fz_0, Fz_0⟩
end
