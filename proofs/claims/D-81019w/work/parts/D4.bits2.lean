set_option maxRecDepth 100000
section
variable {n m xo : Int} {h w : Mem}
/-- the same bits, of two numbers -/
theorem p_bits2 {v v' u : Int} (xb : xo = 19 ∨ xo = 428) (zc : (gC.1 (xo + 1)).2 = 16000) (u0 : 0 ≤ u ∧ u ≤ 31) (W : WR xo h w) (eb : ∀ z, 0 ≤ z → z < u → ian (isr v' z) 1 = ian (isr v z) 1) : J2 (fun Q => T gC 553 [vR 15 314, vI v, vI u] n h Q) (fun Q => T gM 287 [vR 33 17, vI v', vI u] m w Q) (PW n m xo h w) := by
  refine J_impL (fun Q hq => T_go (md := true) [some (vR 15 314), some (vI v), some (vI u), none] [2] 99 (by decide) rfl (Nat.le_of_ble_eq_true rfl) GC FC rfl k553 hq) ?_
  refine J_impR (fun Q hq => T_go (md := true) [some (vR 33 17), some (vI v'), some (vI u), none] [2] 99 (by decide) rfl (Nat.le_of_ble_eq_true rfl) GM FM rfl k287 hq) ?_
  simp -implicitDefEqProofs only [r_iconst, r_bipush, r_sipush, r_ldc, r_ldc_w, r_lconst, r_ldc2_w, r_aconst_null, r_iload, r_iload_n, r_lload, r_lload_n, r_aload, r_aload_n, r_istore, r_istore_n, r_lstore, r_lstore_n, r_astore, r_astore_n, r_iinc, r_iadd, r_iaddW, r_isub, r_isubW, r_imul, r_imulW, r_ladd, r_laddW, r_lsub, r_lsubW, r_lmul, r_lmulW, r_iand, r_ior, r_ishl, r_ishr, r_iushr, r_land, r_lor, r_lshl, r_lshr, r_lushr, r_idiv, r_irem, r_ldiv, r_lrem, r_lcmp, r_ineg, r_i2l, r_l2i, r_i2b, r_i2s, r_i2c, r_dup, r_pop, r_dup_x1, r_dup_x2, r_dup2, r_dup2L, r_icmp_eq, r_icmp_ne, r_icmp_lt, r_icmp_ge, r_icmp_gt, r_icmp_le, r_if_eq, r_if_ne, r_if_lt, r_if_ge, r_if_gt, r_if_le, r_acmp_eq, r_acmp_ne, r_ifnull, r_ifnonnull, r_goto, r_nop, r_tsw, r_lsw, r_getfield, r_getfinal, r_putfield, r_getstaticL, r_getstaticR, r_iaload, r_baload, r_saload, r_laload, r_aaload, r_aaloadM, r_iastore, r_bastore, r_zastore, r_sastore, r_lastore, r_aastore, r_alen, r_new, r_newarray, r_anewarray, r_invV, r_invI, r_objI, r_invS, r_acp, r_ireturn, r_zreturn, r_lreturn, r_return, r_areturn, r_athrow, ↓e_pI, ↓e_pL, ↓e_pR, ↓e_lg0, ↓e_lg1, ↓e_tk0, ↓e_tkI0, ↓e_tkI1, ↓e_tkI2, ↓e_tkI3, ↓e_tkI4, ↓e_tkL, ↓e_tkR0_0, ↓e_tkR0_1, ↓e_tkR1_0, ↓e_tkR1_1, ↓e_tkR2_0, ↓e_tkR2_1, ↓e_tkR3_0, ↓e_tkR3_1, ↓e_tkR4_0, ↓e_tkR4_1, ↓e_tkR5_0, ↓e_tkR5_1, ↓e_tkR6_0, ↓e_tkR6_1, ↓e_tkR7_0, ↓e_tkR7_1, ↓e_tkR8_0, ↓e_tkR8_1, ↓e_tkR9_0, ↓e_tkR9_1, ↓e_tkR10_0, ↓e_tkR10_1, ↓e_tkR11_0, ↓e_tkR11_1, ↓e_tkR12_0, ↓e_tkR12_1, ↓e_tkR13_0, ↓e_tkR13_1, ↓e_tkR14_0, ↓e_tkR14_1, ↓e_tkR15_0, ↓e_tkR15_1, ↓e_tkR16_0, ↓e_tkR16_1, ↓e_tkR17_0, ↓e_tkR17_1, ↓e_tkR39_0, ↓e_tkR39_1, ↓e_tkR40_0, ↓e_tkR40_1, ↓e_tkR41_0, ↓e_tkR41_1, ↓e_tkR42_0, ↓e_tkR42_1, ↓e_tkR43_0, ↓e_tkR43_1, ↓e_tkR44_0, ↓e_tkR44_1, ↓e_tkR45_0, ↓e_tkR45_1, ↓e_tkR46_0, ↓e_tkR46_1, ↓e_tkR47_0, ↓e_tkR47_1, ↓e_tkR48_0, ↓e_tkR48_1, ↓e_pv0, ↓e_pv1, ↓e_pv2, ↓e_pv3, ↓e_pv5, ↓e_pvR, ↓e_tsw0, ↓e_tsw1, ↓e_lsw0, ↓e_lsw1, e_kq100, e_kq0, e_kq3, e_kq5, e_kqR0, e_kqR1, e_kqR2, e_kqR3, e_kqR4, e_kqR5, e_kqR6, e_kqR7, e_kqR8, e_kqR9, e_kqR10, e_kqR11, e_kqR12, e_kqR13, e_kqR14, e_kqR15, e_kqR16, e_kqR17, e_kqR39, e_kqR40, e_kqR41, e_kqR42, e_kqR43, e_kqR44, e_kqR45, e_kqR46, e_kqR47, e_kqR48, e_st0I, e_st0R, e_st0L, e_st1N, e_st1I, e_st1L, e_st1R, e_st2, e_wd0, e_wdI, e_wdL, e_wdR, e_c1I, e_c1R, e_gv0, e_gv1, e_gv2, e_gv3, e_gv4, e_gv5, e_gvR0, e_gvR1, e_gvR2, e_gvR3, e_gvR4, e_gvR5, e_gvR6, e_gvR7, e_gvR8, e_gvR9, e_gvR10, e_gvR11, e_gvR12, e_gvR13, e_gvR14, e_gvR15, e_gvR16, e_gvR17, e_gvR39, e_gvR40, e_gvR41, e_gvR42, e_gvR43, e_gvR44, e_gvR45, e_gvR46, e_gvR47, e_gvR48, e_kX0, e_kX1, e_kVv, e_kVx, e_kIv, e_kIx, e_kLv, e_kLx, e_kRv, e_kRx, e_thr, e_lk1, e_ic0, e_ic1, e_jm, st_ap, clr_ap, e_lceq, e_lclt, e_lcgt, nn, ↓reduceIte, Nat.reduceDiv, Nat.reduceMod, Nat.reduceMul, Nat.reduceAdd, Nat.reduceEqDiff, Nat.reduceLeDiff, Int.reduceNatCast, Int.cast_ofNat_Int, Int.reduceSub, Int.reduceMul, Int.reduceNeg, Int.reduceAdd, Int.reduceLE, Int.reduceLT, Int.reduceEq, Int.reduceNe, true_and, and_true, true_or, and_self, ne_eq, not_false_eq_true, Bool.false_eq_true, reduceCtorEq, rd_l1, rd_l2, rd_l3, rd_l4, rd_l5, rd_l6, rd_l7, rd_l8, rd_l9, SB, rd_ge, i2b_2, false_and, and_false, not_true_eq_false, l553_0, l553_2, l553_45, l553_66, l553_72, s553_0, s553_2, s553_45, s553_66, s553_72, l287_0, l287_2, l287_23, l287_45, l287_90, s287_0, s287_2, s287_23, s287_45, s287_90, zC_18, zC_20, zC_21, zC_22, zC_23, zC_25, zC_26, zC_253, zC_254, zC_256, zC_257, zC_259, zC_260, zC_262, zC_263, zC_265, zC_266, zC_268, zC_269, zC_271, zC_272, zC_274, zC_275, zC_278, zC_279, zC_280, zC_281, zC_282, zC_284, zC_285, zC_287, zC_288, zC_290, zC_291, zC_293, zC_294, zC_296, zC_297, zC_299, zC_300, zC_302, zC_303, zC_304, zC_305, zC_306, zC_307, zC_308, zC_309, zC_310, zC_311, zC_312, zC_315, zC_316, zC_317, zC_319, zC_320, zC_321, zC_323, zC_324, zC_325, zC_327, zC_328, zC_329, zC_331, zC_332, zC_333, zC_335, zC_336, zC_337, zC_339, zC_340, zC_341, zC_343, zC_344, zC_345, zC_347, zC_348, zC_349, zC_350, zC_351, zC_352, zC_353, zC_354, zC_355, zC_356, zC_357, zC_358, zC_359, zC_361, zC_362, zC_363, zC_364, zC_367, zC_368, zC_369, zC_370, zC_371, zC_372, zC_373, zC_374, zC_375, zC_376, zC_378, zC_380, zC_381, zC_383, zC_384, zC_386, zC_387, zC_389, zC_390, zC_391, zC_392, zC_393, zC_394, zC_395, zC_396, zC_397, zC_398, zC_400, zC_402, zC_403, zC_405, zC_407, zC_409, zC_411, zC_413, zC_415, zC_417, zC_420, zC_421, zC_422, zC_423, zC_424, zC_425, zC_427, zC_429, zC_431, zC_433, zC_436, zC_437, zC_438, zC_439, zC_440, zC_441, zC_442, zC_443, zC_444, zC_445, zC_447, zC_448, zC_450, zC_451, zC_453, zC_454, zC_455, zC_456, zC_457, zC_458, zC_460, zC_461, zC_462, zC_463, zC_464, zC_465, zC_466, zC_467, zC_468, zC_469, zC_471, zC_473, zC_474, zC_476, zC_477, zC_478, zC_479, zC_480, zC_481, zC_482, zC_483, zC_484, zC_485, zC_487, zC_489, zC_490, zC_491, zC_493, zC_495, zC_497, zC_499, zM_18, zM_19, zM_20, zM_21, zM_22, zM_23, zM_24, zM_25, zM_26, zM_27, zM_28, zM_29, zM_30, zM_31, zM_32, zM_33, zM_34, zM_35, zM_36, zM_37, zM_38, zM_39, zM_40, zM_41, zM_42, zM_43, zM_44, zM_45, zM_46, zM_47, zM_48, zM_49, zM_50, zM_51, zM_52, zM_53, zM_54, zM_55, zM_56, zM_57, zM_58, zM_59, zM_60, zM_61, zM_62, zM_63, zM_64, zM_65, zM_66, zM_67, zM_68, zM_69, zM_70, zM_71, zM_72, zM_73, zM_74, zM_75, zM_76, zM_77, zM_78, zM_79, zM_80, zM_81, zM_82, zM_83, zM_84, zM_85, zM_86, zM_87, zM_88, zM_89, zM_90, zM_91, zM_92, zM_93, zM_94, zM_95, zM_96, zM_97, zM_98, zM_99, zM_100, zM_101, zM_102, zM_103, zM_104, zM_105, zM_106, zM_107, zM_108, zM_109, zM_110, zM_111, zM_112, zM_113, zM_114, zM_115, zM_116, zM_117, zM_118, zM_119]
  refine lp (F := fun z => ∀ h1 w1 : Mem, WR xo h1 w1 → Fz (wrC xo) h h1 → Fz wrM w w1 → J2 (fun Q => T_at gC 553 2 [some (vR 15 314), some (vI v), some (vI u), some (vI z)] [] n h1 Q) (fun Q => T_at gM 287 2 [some (vR 33 17), some (vI v'), some (vI u), some (vI z)] [] m w1 Q) (PW n m xo h w)) u0.1 ?_ ?_ h w W Fz_0 Fz_0
  · intro z z0 z1 ih h1 w1 W f1 f2
    obtain ⟨WC1, WM1, gb⟩ := W
    rcases gb with G | B
    · obtain ⟨g1, g2, g3, g4, g5⟩ := id G
      obtain ⟨c0, c1, c2, c3⟩ := id WC1
      have e31 : w1 17 31 / 8 = h1 xo 1 ∧ w1 17 31 % 8 = h1 314 2 := by omega
      obtain ⟨h2, W2, F2, c, k⟩ := c_bit1 (n := n) (v := v) (u := u) (z := z) xb zc WC1 (by omega)
      obtain ⟨w2, F3, d1, d2, d3, k2⟩ := m_bit1 (m := m) (v := v') (u := u) (z := z) WM1 (by omega) (by omega) (by rw [e31.1, e31.2]; intro q; rw [g5 (by omega)]; exact c3)
      rw [eb z z0 z1] at d3
      exact J_impL k (J_impR k2 (ih h2 w2 (wg_step (by omega) WC1 G WM1 W2 c d1 d2 d3) (Fz_tr f1 F2) (Fz_tr f2 F3)))
    · refine J_L1 (c_numB xb zc u0.2 (u - z).toNat z h1 (by omega) z0 WC1 B.1) ?_
      intro o n2 h2 p
      refine J_R1 (m_bitsB u0.2 (u - z).toNat z w1 (by omega) z0 WM1 B.2) ?_
      intro o' m2 w2 p'
      obtain ⟨p1, p2, p3, p4, p5⟩ := p
      obtain ⟨s1, s2, s3, s4, s5⟩ := p'
      rw [p1, p2, s1, s2]
      exact J_end ⟨rfl, rfl, rfl, rfl, ⟨p3, s3, Or.inr ⟨p4, s4⟩⟩, Fz_tr f1 p5, Fz_tr f2 s5⟩
  · intro h1 w1 W f1 f2
    refine J_impL (fun Q hq => blk (md := true) [2] 99 GC FC rfl k553 hq) ?_
    refine J_impR (fun Q hq => blk (md := true) [2] 99 GM FM rfl k287 hq) ?_
    simp -implicitDefEqProofs only [r_iconst, r_bipush, r_sipush, r_ldc, r_ldc_w, r_lconst, r_ldc2_w, r_aconst_null, r_iload, r_iload_n, r_lload, r_lload_n, r_aload, r_aload_n, r_istore, r_istore_n, r_lstore, r_lstore_n, r_astore, r_astore_n, r_iinc, r_iadd, r_iaddW, r_isub, r_isubW, r_imul, r_imulW, r_ladd, r_laddW, r_lsub, r_lsubW, r_lmul, r_lmulW, r_iand, r_ior, r_ishl, r_ishr, r_iushr, r_land, r_lor, r_lshl, r_lshr, r_lushr, r_idiv, r_irem, r_ldiv, r_lrem, r_lcmp, r_ineg, r_i2l, r_l2i, r_i2b, r_i2s, r_i2c, r_dup, r_pop, r_dup_x1, r_dup_x2, r_dup2, r_dup2L, r_icmp_eq, r_icmp_ne, r_icmp_lt, r_icmp_ge, r_icmp_gt, r_icmp_le, r_if_eq, r_if_ne, r_if_lt, r_if_ge, r_if_gt, r_if_le, r_acmp_eq, r_acmp_ne, r_ifnull, r_ifnonnull, r_goto, r_nop, r_tsw, r_lsw, r_getfield, r_getfinal, r_putfield, r_getstaticL, r_getstaticR, r_iaload, r_baload, r_saload, r_laload, r_aaload, r_aaloadM, r_iastore, r_bastore, r_zastore, r_sastore, r_lastore, r_aastore, r_alen, r_new, r_newarray, r_anewarray, r_invV, r_invI, r_objI, r_invS, r_acp, r_ireturn, r_zreturn, r_lreturn, r_return, r_areturn, r_athrow, ↓e_pI, ↓e_pL, ↓e_pR, ↓e_lg0, ↓e_lg1, ↓e_tk0, ↓e_tkI0, ↓e_tkI1, ↓e_tkI2, ↓e_tkI3, ↓e_tkI4, ↓e_tkL, ↓e_tkR0_0, ↓e_tkR0_1, ↓e_tkR1_0, ↓e_tkR1_1, ↓e_tkR2_0, ↓e_tkR2_1, ↓e_tkR3_0, ↓e_tkR3_1, ↓e_tkR4_0, ↓e_tkR4_1, ↓e_tkR5_0, ↓e_tkR5_1, ↓e_tkR6_0, ↓e_tkR6_1, ↓e_tkR7_0, ↓e_tkR7_1, ↓e_tkR8_0, ↓e_tkR8_1, ↓e_tkR9_0, ↓e_tkR9_1, ↓e_tkR10_0, ↓e_tkR10_1, ↓e_tkR11_0, ↓e_tkR11_1, ↓e_tkR12_0, ↓e_tkR12_1, ↓e_tkR13_0, ↓e_tkR13_1, ↓e_tkR14_0, ↓e_tkR14_1, ↓e_tkR15_0, ↓e_tkR15_1, ↓e_tkR16_0, ↓e_tkR16_1, ↓e_tkR17_0, ↓e_tkR17_1, ↓e_tkR39_0, ↓e_tkR39_1, ↓e_tkR40_0, ↓e_tkR40_1, ↓e_tkR41_0, ↓e_tkR41_1, ↓e_tkR42_0, ↓e_tkR42_1, ↓e_tkR43_0, ↓e_tkR43_1, ↓e_tkR44_0, ↓e_tkR44_1, ↓e_tkR45_0, ↓e_tkR45_1, ↓e_tkR46_0, ↓e_tkR46_1, ↓e_tkR47_0, ↓e_tkR47_1, ↓e_tkR48_0, ↓e_tkR48_1, ↓e_pv0, ↓e_pv1, ↓e_pv2, ↓e_pv3, ↓e_pv5, ↓e_pvR, ↓e_tsw0, ↓e_tsw1, ↓e_lsw0, ↓e_lsw1, e_kq100, e_kq0, e_kq3, e_kq5, e_kqR0, e_kqR1, e_kqR2, e_kqR3, e_kqR4, e_kqR5, e_kqR6, e_kqR7, e_kqR8, e_kqR9, e_kqR10, e_kqR11, e_kqR12, e_kqR13, e_kqR14, e_kqR15, e_kqR16, e_kqR17, e_kqR39, e_kqR40, e_kqR41, e_kqR42, e_kqR43, e_kqR44, e_kqR45, e_kqR46, e_kqR47, e_kqR48, e_st0I, e_st0R, e_st0L, e_st1N, e_st1I, e_st1L, e_st1R, e_st2, e_wd0, e_wdI, e_wdL, e_wdR, e_c1I, e_c1R, e_gv0, e_gv1, e_gv2, e_gv3, e_gv4, e_gv5, e_gvR0, e_gvR1, e_gvR2, e_gvR3, e_gvR4, e_gvR5, e_gvR6, e_gvR7, e_gvR8, e_gvR9, e_gvR10, e_gvR11, e_gvR12, e_gvR13, e_gvR14, e_gvR15, e_gvR16, e_gvR17, e_gvR39, e_gvR40, e_gvR41, e_gvR42, e_gvR43, e_gvR44, e_gvR45, e_gvR46, e_gvR47, e_gvR48, e_kX0, e_kX1, e_kVv, e_kVx, e_kIv, e_kIx, e_kLv, e_kLx, e_kRv, e_kRx, e_thr, e_lk1, e_ic0, e_ic1, e_jm, st_ap, clr_ap, e_lceq, e_lclt, e_lcgt, nn, ↓reduceIte, Nat.reduceDiv, Nat.reduceMod, Nat.reduceMul, Nat.reduceAdd, Nat.reduceEqDiff, Nat.reduceLeDiff, Int.reduceNatCast, Int.cast_ofNat_Int, Int.reduceSub, Int.reduceMul, Int.reduceNeg, Int.reduceAdd, Int.reduceLE, Int.reduceLT, Int.reduceEq, Int.reduceNe, true_and, and_true, true_or, and_self, ne_eq, not_false_eq_true, Bool.false_eq_true, reduceCtorEq, rd_l1, rd_l2, rd_l3, rd_l4, rd_l5, rd_l6, rd_l7, rd_l8, rd_l9, SB, rd_ge, i2b_2, false_and, and_false, not_true_eq_false, l553_0, l553_2, l553_45, l553_66, l553_72, s553_0, s553_2, s553_45, s553_66, s553_72, l287_0, l287_2, l287_23, l287_45, l287_90, s287_0, s287_2, s287_23, s287_45, s287_90, zC_18, zC_20, zC_21, zC_22, zC_23, zC_25, zC_26, zC_253, zC_254, zC_256, zC_257, zC_259, zC_260, zC_262, zC_263, zC_265, zC_266, zC_268, zC_269, zC_271, zC_272, zC_274, zC_275, zC_278, zC_279, zC_280, zC_281, zC_282, zC_284, zC_285, zC_287, zC_288, zC_290, zC_291, zC_293, zC_294, zC_296, zC_297, zC_299, zC_300, zC_302, zC_303, zC_304, zC_305, zC_306, zC_307, zC_308, zC_309, zC_310, zC_311, zC_312, zC_315, zC_316, zC_317, zC_319, zC_320, zC_321, zC_323, zC_324, zC_325, zC_327, zC_328, zC_329, zC_331, zC_332, zC_333, zC_335, zC_336, zC_337, zC_339, zC_340, zC_341, zC_343, zC_344, zC_345, zC_347, zC_348, zC_349, zC_350, zC_351, zC_352, zC_353, zC_354, zC_355, zC_356, zC_357, zC_358, zC_359, zC_361, zC_362, zC_363, zC_364, zC_367, zC_368, zC_369, zC_370, zC_371, zC_372, zC_373, zC_374, zC_375, zC_376, zC_378, zC_380, zC_381, zC_383, zC_384, zC_386, zC_387, zC_389, zC_390, zC_391, zC_392, zC_393, zC_394, zC_395, zC_396, zC_397, zC_398, zC_400, zC_402, zC_403, zC_405, zC_407, zC_409, zC_411, zC_413, zC_415, zC_417, zC_420, zC_421, zC_422, zC_423, zC_424, zC_425, zC_427, zC_429, zC_431, zC_433, zC_436, zC_437, zC_438, zC_439, zC_440, zC_441, zC_442, zC_443, zC_444, zC_445, zC_447, zC_448, zC_450, zC_451, zC_453, zC_454, zC_455, zC_456, zC_457, zC_458, zC_460, zC_461, zC_462, zC_463, zC_464, zC_465, zC_466, zC_467, zC_468, zC_469, zC_471, zC_473, zC_474, zC_476, zC_477, zC_478, zC_479, zC_480, zC_481, zC_482, zC_483, zC_484, zC_485, zC_487, zC_489, zC_490, zC_491, zC_493, zC_495, zC_497, zC_499, zM_18, zM_19, zM_20, zM_21, zM_22, zM_23, zM_24, zM_25, zM_26, zM_27, zM_28, zM_29, zM_30, zM_31, zM_32, zM_33, zM_34, zM_35, zM_36, zM_37, zM_38, zM_39, zM_40, zM_41, zM_42, zM_43, zM_44, zM_45, zM_46, zM_47, zM_48, zM_49, zM_50, zM_51, zM_52, zM_53, zM_54, zM_55, zM_56, zM_57, zM_58, zM_59, zM_60, zM_61, zM_62, zM_63, zM_64, zM_65, zM_66, zM_67, zM_68, zM_69, zM_70, zM_71, zM_72, zM_73, zM_74, zM_75, zM_76, zM_77, zM_78, zM_79, zM_80, zM_81, zM_82, zM_83, zM_84, zM_85, zM_86, zM_87, zM_88, zM_89, zM_90, zM_91, zM_92, zM_93, zM_94, zM_95, zM_96, zM_97, zM_98, zM_99, zM_100, zM_101, zM_102, zM_103, zM_104, zM_105, zM_106, zM_107, zM_108, zM_109, zM_110, zM_111, zM_112, zM_113, zM_114, zM_115, zM_116, zM_117, zM_118, zM_119]
    repeat (first | refine J_andL (by first | omega | (constructor <;> omega)) ?_ | refine J_andR (by first | omega | (constructor <;> omega)) ?_ | refine J_posL (by first | omega | (constructor <;> omega)) ?_ | refine J_negL (by first | omega | (constructor <;> omega)) ?_ | refine J_posR (by first | omega | (constructor <;> omega)) ?_ | refine J_negR (by first | omega | (constructor <;> omega)) ?_)
    exact J_end ⟨rfl, rfl, rfl, rfl, W, f1, f2⟩
theorem m_bits0 {v : Int} : Ev gM 287 [vR 33 17, vI v, vI 0] m w (.inl none) m w := by
  intro Q hQ
  have k : T_at gM 287 2 [some (vR 33 17), some (vI v), some (vI 0), some (vI 0)] [] m w Q := by
    refine blk (md := true) [2] 99 GM FM rfl k287 ?_
    simp -implicitDefEqProofs only [r_iconst, r_bipush, r_sipush, r_ldc, r_ldc_w, r_lconst, r_ldc2_w, r_aconst_null, r_iload, r_iload_n, r_lload, r_lload_n, r_aload, r_aload_n, r_istore, r_istore_n, r_lstore, r_lstore_n, r_astore, r_astore_n, r_iinc, r_iadd, r_iaddW, r_isub, r_isubW, r_imul, r_imulW, r_ladd, r_laddW, r_lsub, r_lsubW, r_lmul, r_lmulW, r_iand, r_ior, r_ishl, r_ishr, r_iushr, r_land, r_lor, r_lshl, r_lshr, r_lushr, r_idiv, r_irem, r_ldiv, r_lrem, r_lcmp, r_ineg, r_i2l, r_l2i, r_i2b, r_i2s, r_i2c, r_dup, r_pop, r_dup_x1, r_dup_x2, r_dup2, r_dup2L, r_icmp_eq, r_icmp_ne, r_icmp_lt, r_icmp_ge, r_icmp_gt, r_icmp_le, r_if_eq, r_if_ne, r_if_lt, r_if_ge, r_if_gt, r_if_le, r_acmp_eq, r_acmp_ne, r_ifnull, r_ifnonnull, r_goto, r_nop, r_tsw, r_lsw, r_getfield, r_getfinal, r_putfield, r_getstaticL, r_getstaticR, r_iaload, r_baload, r_saload, r_laload, r_aaload, r_aaloadM, r_iastore, r_bastore, r_zastore, r_sastore, r_lastore, r_aastore, r_alen, r_new, r_newarray, r_anewarray, r_invV, r_invI, r_objI, r_invS, r_acp, r_ireturn, r_zreturn, r_lreturn, r_return, r_areturn, r_athrow, ↓e_pI, ↓e_pL, ↓e_pR, ↓e_lg0, ↓e_lg1, ↓e_tk0, ↓e_tkI0, ↓e_tkI1, ↓e_tkI2, ↓e_tkI3, ↓e_tkI4, ↓e_tkL, ↓e_tkR0_0, ↓e_tkR0_1, ↓e_tkR1_0, ↓e_tkR1_1, ↓e_tkR2_0, ↓e_tkR2_1, ↓e_tkR3_0, ↓e_tkR3_1, ↓e_tkR4_0, ↓e_tkR4_1, ↓e_tkR5_0, ↓e_tkR5_1, ↓e_tkR6_0, ↓e_tkR6_1, ↓e_tkR7_0, ↓e_tkR7_1, ↓e_tkR8_0, ↓e_tkR8_1, ↓e_tkR9_0, ↓e_tkR9_1, ↓e_tkR10_0, ↓e_tkR10_1, ↓e_tkR11_0, ↓e_tkR11_1, ↓e_tkR12_0, ↓e_tkR12_1, ↓e_tkR13_0, ↓e_tkR13_1, ↓e_tkR14_0, ↓e_tkR14_1, ↓e_tkR15_0, ↓e_tkR15_1, ↓e_tkR16_0, ↓e_tkR16_1, ↓e_tkR17_0, ↓e_tkR17_1, ↓e_tkR39_0, ↓e_tkR39_1, ↓e_tkR40_0, ↓e_tkR40_1, ↓e_tkR41_0, ↓e_tkR41_1, ↓e_tkR42_0, ↓e_tkR42_1, ↓e_tkR43_0, ↓e_tkR43_1, ↓e_tkR44_0, ↓e_tkR44_1, ↓e_tkR45_0, ↓e_tkR45_1, ↓e_tkR46_0, ↓e_tkR46_1, ↓e_tkR47_0, ↓e_tkR47_1, ↓e_tkR48_0, ↓e_tkR48_1, ↓e_pv0, ↓e_pv1, ↓e_pv2, ↓e_pv3, ↓e_pv5, ↓e_pvR, ↓e_tsw0, ↓e_tsw1, ↓e_lsw0, ↓e_lsw1, e_kq100, e_kq0, e_kq3, e_kq5, e_kqR0, e_kqR1, e_kqR2, e_kqR3, e_kqR4, e_kqR5, e_kqR6, e_kqR7, e_kqR8, e_kqR9, e_kqR10, e_kqR11, e_kqR12, e_kqR13, e_kqR14, e_kqR15, e_kqR16, e_kqR17, e_kqR39, e_kqR40, e_kqR41, e_kqR42, e_kqR43, e_kqR44, e_kqR45, e_kqR46, e_kqR47, e_kqR48, e_st0I, e_st0R, e_st0L, e_st1N, e_st1I, e_st1L, e_st1R, e_st2, e_wd0, e_wdI, e_wdL, e_wdR, e_c1I, e_c1R, e_gv0, e_gv1, e_gv2, e_gv3, e_gv4, e_gv5, e_gvR0, e_gvR1, e_gvR2, e_gvR3, e_gvR4, e_gvR5, e_gvR6, e_gvR7, e_gvR8, e_gvR9, e_gvR10, e_gvR11, e_gvR12, e_gvR13, e_gvR14, e_gvR15, e_gvR16, e_gvR17, e_gvR39, e_gvR40, e_gvR41, e_gvR42, e_gvR43, e_gvR44, e_gvR45, e_gvR46, e_gvR47, e_gvR48, e_kX0, e_kX1, e_kVv, e_kVx, e_kIv, e_kIx, e_kLv, e_kLx, e_kRv, e_kRx, e_thr, e_lk1, e_ic0, e_ic1, e_jm, st_ap, clr_ap, e_lceq, e_lclt, e_lcgt, nn, ↓reduceIte, Nat.reduceDiv, Nat.reduceMod, Nat.reduceMul, Nat.reduceAdd, Nat.reduceEqDiff, Nat.reduceLeDiff, Int.reduceNatCast, Int.cast_ofNat_Int, Int.reduceSub, Int.reduceMul, Int.reduceNeg, Int.reduceAdd, Int.reduceLE, Int.reduceLT, Int.reduceEq, Int.reduceNe, true_and, and_true, true_or, and_self, ne_eq, not_false_eq_true, Bool.false_eq_true, reduceCtorEq, rd_l1, rd_l2, rd_l3, rd_l4, rd_l5, rd_l6, rd_l7, rd_l8, rd_l9, SB, rd_ge, i2b_2, false_and, and_false, not_true_eq_false, l287_0, l287_2, l287_23, l287_45, l287_90, s287_0, s287_2, s287_23, s287_45, s287_90, zM_18, zM_19, zM_20, zM_21, zM_22, zM_23, zM_24, zM_25, zM_26, zM_27, zM_28, zM_29, zM_30, zM_31, zM_32, zM_33, zM_34, zM_35, zM_36, zM_37, zM_38, zM_39, zM_40, zM_41, zM_42, zM_43, zM_44, zM_45, zM_46, zM_47, zM_48, zM_49, zM_50, zM_51, zM_52, zM_53, zM_54, zM_55, zM_56, zM_57, zM_58, zM_59, zM_60, zM_61, zM_62, zM_63, zM_64, zM_65, zM_66, zM_67, zM_68, zM_69, zM_70, zM_71, zM_72, zM_73, zM_74, zM_75, zM_76, zM_77, zM_78, zM_79, zM_80, zM_81, zM_82, zM_83, zM_84, zM_85, zM_86, zM_87, zM_88, zM_89, zM_90, zM_91, zM_92, zM_93, zM_94, zM_95, zM_96, zM_97, zM_98, zM_99, zM_100, zM_101, zM_102, zM_103, zM_104, zM_105, zM_106, zM_107, zM_108, zM_109, zM_110, zM_111, zM_112, zM_113, zM_114, zM_115, zM_116, zM_117, zM_118, zM_119]
    exact hQ
  refine T_go (md := true) [some (vR 33 17), some (vI v), some (vI 0), none] [2] 99 (by decide) rfl (Nat.le_of_ble_eq_true rfl) GM FM rfl k287 ?_
  simp -implicitDefEqProofs only [r_iconst, r_bipush, r_sipush, r_ldc, r_ldc_w, r_lconst, r_ldc2_w, r_aconst_null, r_iload, r_iload_n, r_lload, r_lload_n, r_aload, r_aload_n, r_istore, r_istore_n, r_lstore, r_lstore_n, r_astore, r_astore_n, r_iinc, r_iadd, r_iaddW, r_isub, r_isubW, r_imul, r_imulW, r_ladd, r_laddW, r_lsub, r_lsubW, r_lmul, r_lmulW, r_iand, r_ior, r_ishl, r_ishr, r_iushr, r_land, r_lor, r_lshl, r_lshr, r_lushr, r_idiv, r_irem, r_ldiv, r_lrem, r_lcmp, r_ineg, r_i2l, r_l2i, r_i2b, r_i2s, r_i2c, r_dup, r_pop, r_dup_x1, r_dup_x2, r_dup2, r_dup2L, r_icmp_eq, r_icmp_ne, r_icmp_lt, r_icmp_ge, r_icmp_gt, r_icmp_le, r_if_eq, r_if_ne, r_if_lt, r_if_ge, r_if_gt, r_if_le, r_acmp_eq, r_acmp_ne, r_ifnull, r_ifnonnull, r_goto, r_nop, r_tsw, r_lsw, r_getfield, r_getfinal, r_putfield, r_getstaticL, r_getstaticR, r_iaload, r_baload, r_saload, r_laload, r_aaload, r_aaloadM, r_iastore, r_bastore, r_zastore, r_sastore, r_lastore, r_aastore, r_alen, r_new, r_newarray, r_anewarray, r_invV, r_invI, r_objI, r_invS, r_acp, r_ireturn, r_zreturn, r_lreturn, r_return, r_areturn, r_athrow, ↓e_pI, ↓e_pL, ↓e_pR, ↓e_lg0, ↓e_lg1, ↓e_tk0, ↓e_tkI0, ↓e_tkI1, ↓e_tkI2, ↓e_tkI3, ↓e_tkI4, ↓e_tkL, ↓e_tkR0_0, ↓e_tkR0_1, ↓e_tkR1_0, ↓e_tkR1_1, ↓e_tkR2_0, ↓e_tkR2_1, ↓e_tkR3_0, ↓e_tkR3_1, ↓e_tkR4_0, ↓e_tkR4_1, ↓e_tkR5_0, ↓e_tkR5_1, ↓e_tkR6_0, ↓e_tkR6_1, ↓e_tkR7_0, ↓e_tkR7_1, ↓e_tkR8_0, ↓e_tkR8_1, ↓e_tkR9_0, ↓e_tkR9_1, ↓e_tkR10_0, ↓e_tkR10_1, ↓e_tkR11_0, ↓e_tkR11_1, ↓e_tkR12_0, ↓e_tkR12_1, ↓e_tkR13_0, ↓e_tkR13_1, ↓e_tkR14_0, ↓e_tkR14_1, ↓e_tkR15_0, ↓e_tkR15_1, ↓e_tkR16_0, ↓e_tkR16_1, ↓e_tkR17_0, ↓e_tkR17_1, ↓e_tkR39_0, ↓e_tkR39_1, ↓e_tkR40_0, ↓e_tkR40_1, ↓e_tkR41_0, ↓e_tkR41_1, ↓e_tkR42_0, ↓e_tkR42_1, ↓e_tkR43_0, ↓e_tkR43_1, ↓e_tkR44_0, ↓e_tkR44_1, ↓e_tkR45_0, ↓e_tkR45_1, ↓e_tkR46_0, ↓e_tkR46_1, ↓e_tkR47_0, ↓e_tkR47_1, ↓e_tkR48_0, ↓e_tkR48_1, ↓e_pv0, ↓e_pv1, ↓e_pv2, ↓e_pv3, ↓e_pv5, ↓e_pvR, ↓e_tsw0, ↓e_tsw1, ↓e_lsw0, ↓e_lsw1, e_kq100, e_kq0, e_kq3, e_kq5, e_kqR0, e_kqR1, e_kqR2, e_kqR3, e_kqR4, e_kqR5, e_kqR6, e_kqR7, e_kqR8, e_kqR9, e_kqR10, e_kqR11, e_kqR12, e_kqR13, e_kqR14, e_kqR15, e_kqR16, e_kqR17, e_kqR39, e_kqR40, e_kqR41, e_kqR42, e_kqR43, e_kqR44, e_kqR45, e_kqR46, e_kqR47, e_kqR48, e_st0I, e_st0R, e_st0L, e_st1N, e_st1I, e_st1L, e_st1R, e_st2, e_wd0, e_wdI, e_wdL, e_wdR, e_c1I, e_c1R, e_gv0, e_gv1, e_gv2, e_gv3, e_gv4, e_gv5, e_gvR0, e_gvR1, e_gvR2, e_gvR3, e_gvR4, e_gvR5, e_gvR6, e_gvR7, e_gvR8, e_gvR9, e_gvR10, e_gvR11, e_gvR12, e_gvR13, e_gvR14, e_gvR15, e_gvR16, e_gvR17, e_gvR39, e_gvR40, e_gvR41, e_gvR42, e_gvR43, e_gvR44, e_gvR45, e_gvR46, e_gvR47, e_gvR48, e_kX0, e_kX1, e_kVv, e_kVx, e_kIv, e_kIx, e_kLv, e_kLx, e_kRv, e_kRx, e_thr, e_lk1, e_ic0, e_ic1, e_jm, st_ap, clr_ap, e_lceq, e_lclt, e_lcgt, nn, ↓reduceIte, Nat.reduceDiv, Nat.reduceMod, Nat.reduceMul, Nat.reduceAdd, Nat.reduceEqDiff, Nat.reduceLeDiff, Int.reduceNatCast, Int.cast_ofNat_Int, Int.reduceSub, Int.reduceMul, Int.reduceNeg, Int.reduceAdd, Int.reduceLE, Int.reduceLT, Int.reduceEq, Int.reduceNe, true_and, and_true, true_or, and_self, ne_eq, not_false_eq_true, Bool.false_eq_true, reduceCtorEq, rd_l1, rd_l2, rd_l3, rd_l4, rd_l5, rd_l6, rd_l7, rd_l8, rd_l9, SB, rd_ge, i2b_2, false_and, and_false, not_true_eq_false, l287_0, l287_2, l287_23, l287_45, l287_90, s287_0, s287_2, s287_23, s287_45, s287_90, zM_18, zM_19, zM_20, zM_21, zM_22, zM_23, zM_24, zM_25, zM_26, zM_27, zM_28, zM_29, zM_30, zM_31, zM_32, zM_33, zM_34, zM_35, zM_36, zM_37, zM_38, zM_39, zM_40, zM_41, zM_42, zM_43, zM_44, zM_45, zM_46, zM_47, zM_48, zM_49, zM_50, zM_51, zM_52, zM_53, zM_54, zM_55, zM_56, zM_57, zM_58, zM_59, zM_60, zM_61, zM_62, zM_63, zM_64, zM_65, zM_66, zM_67, zM_68, zM_69, zM_70, zM_71, zM_72, zM_73, zM_74, zM_75, zM_76, zM_77, zM_78, zM_79, zM_80, zM_81, zM_82, zM_83, zM_84, zM_85, zM_86, zM_87, zM_88, zM_89, zM_90, zM_91, zM_92, zM_93, zM_94, zM_95, zM_96, zM_97, zM_98, zM_99, zM_100, zM_101, zM_102, zM_103, zM_104, zM_105, zM_106, zM_107, zM_108, zM_109, zM_110, zM_111, zM_112, zM_113, zM_114, zM_115, zM_116, zM_117, zM_118, zM_119]
  exact k
/-- the low bits of a masked number -/
theorem isr_p {x z : Int} (x0 : 0 ≤ x ∧ x < 65536) (z0 : 0 ≤ z ∧ z < 32) : isr x z = x / 2 ^ z.toNat := by
  rw [isr_eq z0.1 z0.2, wr_id (by constructor <;> omega)]
theorem low_1 {v z : Int} (z0 : 0 ≤ z) (z1 : z < 1) : v % 2 / 2 ^ z.toNat % 2 = v / 2 ^ z.toNat % 2 := by
  rw [show z = 0 by omega]; show v % 2 / 1 % 2 = v / 1 % 2; omega
theorem low_2 {v z : Int} (z0 : 0 ≤ z) (z1 : z < 2) : v % 4 / 2 ^ z.toNat % 2 = v / 2 ^ z.toNat % 2 := by
  rcases (by omega : z = 0 ∨ z = 1) with e | e
  · rw [e]; show v % 4 / 1 % 2 = v / 1 % 2; omega
  · rw [e]; show v % 4 / 2 % 2 = v / 2 % 2; omega
theorem low_3 {v z : Int} (z0 : 0 ≤ z) (z1 : z < 3) : v % 8 / 2 ^ z.toNat % 2 = v / 2 ^ z.toNat % 2 := by
  rcases (by omega : z = 0 ∨ z = 1 ∨ z = 2) with e | e | e
  · rw [e]; show v % 8 / 1 % 2 = v / 1 % 2; omega
  · rw [e]; show v % 8 / 2 % 2 = v / 2 % 2; omega
  · rw [e]; show v % 8 / 4 % 2 = v / 4 % 2; omega
theorem low_4 {v z : Int} (z0 : 0 ≤ z) (z1 : z < 4) : v % 16 / 2 ^ z.toNat % 2 = v / 2 ^ z.toNat % 2 := by
  rcases (by omega : z = 0 ∨ z = 1 ∨ z = 2 ∨ z = 3) with e | e | e | e
  · rw [e]; show v % 16 / 1 % 2 = v / 1 % 2; omega
  · rw [e]; show v % 16 / 2 % 2 = v / 2 % 2; omega
  · rw [e]; show v % 16 / 4 % 2 = v / 4 % 2; omega
  · rw [e]; show v % 16 / 8 % 2 = v / 8 % 2; omega
theorem low_5 {v z : Int} (z0 : 0 ≤ z) (z1 : z < 5) : v % 32 / 2 ^ z.toNat % 2 = v / 2 ^ z.toNat % 2 := by
  rcases (by omega : z = 0 ∨ z = 1 ∨ z = 2 ∨ z = 3 ∨ z = 4) with e | e | e | e | e
  · rw [e]; show v % 32 / 1 % 2 = v / 1 % 2; omega
  · rw [e]; show v % 32 / 2 % 2 = v / 2 % 2; omega
  · rw [e]; show v % 32 / 4 % 2 = v / 4 % 2; omega
  · rw [e]; show v % 32 / 8 % 2 = v / 8 % 2; omega
  · rw [e]; show v % 32 / 16 % 2 = v / 16 % 2; omega
theorem low_6 {v z : Int} (z0 : 0 ≤ z) (z1 : z < 6) : v % 64 / 2 ^ z.toNat % 2 = v / 2 ^ z.toNat % 2 := by
  rcases (by omega : z = 0 ∨ z = 1 ∨ z = 2 ∨ z = 3 ∨ z = 4 ∨ z = 5) with e | e | e | e | e | e
  · rw [e]; show v % 64 / 1 % 2 = v / 1 % 2; omega
  · rw [e]; show v % 64 / 2 % 2 = v / 2 % 2; omega
  · rw [e]; show v % 64 / 4 % 2 = v / 4 % 2; omega
  · rw [e]; show v % 64 / 8 % 2 = v / 8 % 2; omega
  · rw [e]; show v % 64 / 16 % 2 = v / 16 % 2; omega
  · rw [e]; show v % 64 / 32 % 2 = v / 32 % 2; omega
theorem low_7 {v z : Int} (z0 : 0 ≤ z) (z1 : z < 7) : v % 128 / 2 ^ z.toNat % 2 = v / 2 ^ z.toNat % 2 := by
  rcases (by omega : z = 0 ∨ z = 1 ∨ z = 2 ∨ z = 3 ∨ z = 4 ∨ z = 5 ∨ z = 6) with e | e | e | e | e | e | e
  · rw [e]; show v % 128 / 1 % 2 = v / 1 % 2; omega
  · rw [e]; show v % 128 / 2 % 2 = v / 2 % 2; omega
  · rw [e]; show v % 128 / 4 % 2 = v / 4 % 2; omega
  · rw [e]; show v % 128 / 8 % 2 = v / 8 % 2; omega
  · rw [e]; show v % 128 / 16 % 2 = v / 16 % 2; omega
  · rw [e]; show v % 128 / 32 % 2 = v / 32 % 2; omega
  · rw [e]; show v % 128 / 64 % 2 = v / 64 % 2; omega
theorem low_8 {v z : Int} (z0 : 0 ≤ z) (z1 : z < 8) : v % 256 / 2 ^ z.toNat % 2 = v / 2 ^ z.toNat % 2 := by
  rcases (by omega : z = 0 ∨ z = 1 ∨ z = 2 ∨ z = 3 ∨ z = 4 ∨ z = 5 ∨ z = 6 ∨ z = 7) with e | e | e | e | e | e | e | e
  · rw [e]; show v % 256 / 1 % 2 = v / 1 % 2; omega
  · rw [e]; show v % 256 / 2 % 2 = v / 2 % 2; omega
  · rw [e]; show v % 256 / 4 % 2 = v / 4 % 2; omega
  · rw [e]; show v % 256 / 8 % 2 = v / 8 % 2; omega
  · rw [e]; show v % 256 / 16 % 2 = v / 16 % 2; omega
  · rw [e]; show v % 256 / 32 % 2 = v / 32 % 2; omega
  · rw [e]; show v % 256 / 64 % 2 = v / 64 % 2; omega
  · rw [e]; show v % 256 / 128 % 2 = v / 128 % 2; omega
theorem low_9 {v z : Int} (z0 : 0 ≤ z) (z1 : z < 9) : v % 512 / 2 ^ z.toNat % 2 = v / 2 ^ z.toNat % 2 := by
  rcases (by omega : z = 0 ∨ z = 1 ∨ z = 2 ∨ z = 3 ∨ z = 4 ∨ z = 5 ∨ z = 6 ∨ z = 7 ∨ z = 8) with e | e | e | e | e | e | e | e | e
  · rw [e]; show v % 512 / 1 % 2 = v / 1 % 2; omega
  · rw [e]; show v % 512 / 2 % 2 = v / 2 % 2; omega
  · rw [e]; show v % 512 / 4 % 2 = v / 4 % 2; omega
  · rw [e]; show v % 512 / 8 % 2 = v / 8 % 2; omega
  · rw [e]; show v % 512 / 16 % 2 = v / 16 % 2; omega
  · rw [e]; show v % 512 / 32 % 2 = v / 32 % 2; omega
  · rw [e]; show v % 512 / 64 % 2 = v / 64 % 2; omega
  · rw [e]; show v % 512 / 128 % 2 = v / 128 % 2; omega
  · rw [e]; show v % 512 / 256 % 2 = v / 256 % 2; omega
theorem low_10 {v z : Int} (z0 : 0 ≤ z) (z1 : z < 10) : v % 1024 / 2 ^ z.toNat % 2 = v / 2 ^ z.toNat % 2 := by
  rcases (by omega : z = 0 ∨ z = 1 ∨ z = 2 ∨ z = 3 ∨ z = 4 ∨ z = 5 ∨ z = 6 ∨ z = 7 ∨ z = 8 ∨ z = 9) with e | e | e | e | e | e | e | e | e | e
  · rw [e]; show v % 1024 / 1 % 2 = v / 1 % 2; omega
  · rw [e]; show v % 1024 / 2 % 2 = v / 2 % 2; omega
  · rw [e]; show v % 1024 / 4 % 2 = v / 4 % 2; omega
  · rw [e]; show v % 1024 / 8 % 2 = v / 8 % 2; omega
  · rw [e]; show v % 1024 / 16 % 2 = v / 16 % 2; omega
  · rw [e]; show v % 1024 / 32 % 2 = v / 32 % 2; omega
  · rw [e]; show v % 1024 / 64 % 2 = v / 64 % 2; omega
  · rw [e]; show v % 1024 / 128 % 2 = v / 128 % 2; omega
  · rw [e]; show v % 1024 / 256 % 2 = v / 256 % 2; omega
  · rw [e]; show v % 1024 / 512 % 2 = v / 512 % 2; omega
theorem low_11 {v z : Int} (z0 : 0 ≤ z) (z1 : z < 11) : v % 2048 / 2 ^ z.toNat % 2 = v / 2 ^ z.toNat % 2 := by
  rcases (by omega : z = 0 ∨ z = 1 ∨ z = 2 ∨ z = 3 ∨ z = 4 ∨ z = 5 ∨ z = 6 ∨ z = 7 ∨ z = 8 ∨ z = 9 ∨ z = 10) with e | e | e | e | e | e | e | e | e | e | e
  · rw [e]; show v % 2048 / 1 % 2 = v / 1 % 2; omega
  · rw [e]; show v % 2048 / 2 % 2 = v / 2 % 2; omega
  · rw [e]; show v % 2048 / 4 % 2 = v / 4 % 2; omega
  · rw [e]; show v % 2048 / 8 % 2 = v / 8 % 2; omega
  · rw [e]; show v % 2048 / 16 % 2 = v / 16 % 2; omega
  · rw [e]; show v % 2048 / 32 % 2 = v / 32 % 2; omega
  · rw [e]; show v % 2048 / 64 % 2 = v / 64 % 2; omega
  · rw [e]; show v % 2048 / 128 % 2 = v / 128 % 2; omega
  · rw [e]; show v % 2048 / 256 % 2 = v / 256 % 2; omega
  · rw [e]; show v % 2048 / 512 % 2 = v / 512 % 2; omega
  · rw [e]; show v % 2048 / 1024 % 2 = v / 1024 % 2; omega
theorem low_12 {v z : Int} (z0 : 0 ≤ z) (z1 : z < 12) : v % 4096 / 2 ^ z.toNat % 2 = v / 2 ^ z.toNat % 2 := by
  rcases (by omega : z = 0 ∨ z = 1 ∨ z = 2 ∨ z = 3 ∨ z = 4 ∨ z = 5 ∨ z = 6 ∨ z = 7 ∨ z = 8 ∨ z = 9 ∨ z = 10 ∨ z = 11) with e | e | e | e | e | e | e | e | e | e | e | e
  · rw [e]; show v % 4096 / 1 % 2 = v / 1 % 2; omega
  · rw [e]; show v % 4096 / 2 % 2 = v / 2 % 2; omega
  · rw [e]; show v % 4096 / 4 % 2 = v / 4 % 2; omega
  · rw [e]; show v % 4096 / 8 % 2 = v / 8 % 2; omega
  · rw [e]; show v % 4096 / 16 % 2 = v / 16 % 2; omega
  · rw [e]; show v % 4096 / 32 % 2 = v / 32 % 2; omega
  · rw [e]; show v % 4096 / 64 % 2 = v / 64 % 2; omega
  · rw [e]; show v % 4096 / 128 % 2 = v / 128 % 2; omega
  · rw [e]; show v % 4096 / 256 % 2 = v / 256 % 2; omega
  · rw [e]; show v % 4096 / 512 % 2 = v / 512 % 2; omega
  · rw [e]; show v % 4096 / 1024 % 2 = v / 1024 % 2; omega
  · rw [e]; show v % 4096 / 2048 % 2 = v / 2048 % 2; omega
theorem low_13 {v z : Int} (z0 : 0 ≤ z) (z1 : z < 13) : v % 8192 / 2 ^ z.toNat % 2 = v / 2 ^ z.toNat % 2 := by
  rcases (by omega : z = 0 ∨ z = 1 ∨ z = 2 ∨ z = 3 ∨ z = 4 ∨ z = 5 ∨ z = 6 ∨ z = 7 ∨ z = 8 ∨ z = 9 ∨ z = 10 ∨ z = 11 ∨ z = 12) with e | e | e | e | e | e | e | e | e | e | e | e | e
  · rw [e]; show v % 8192 / 1 % 2 = v / 1 % 2; omega
  · rw [e]; show v % 8192 / 2 % 2 = v / 2 % 2; omega
  · rw [e]; show v % 8192 / 4 % 2 = v / 4 % 2; omega
  · rw [e]; show v % 8192 / 8 % 2 = v / 8 % 2; omega
  · rw [e]; show v % 8192 / 16 % 2 = v / 16 % 2; omega
  · rw [e]; show v % 8192 / 32 % 2 = v / 32 % 2; omega
  · rw [e]; show v % 8192 / 64 % 2 = v / 64 % 2; omega
  · rw [e]; show v % 8192 / 128 % 2 = v / 128 % 2; omega
  · rw [e]; show v % 8192 / 256 % 2 = v / 256 % 2; omega
  · rw [e]; show v % 8192 / 512 % 2 = v / 512 % 2; omega
  · rw [e]; show v % 8192 / 1024 % 2 = v / 1024 % 2; omega
  · rw [e]; show v % 8192 / 2048 % 2 = v / 2048 % 2; omega
  · rw [e]; show v % 8192 / 4096 % 2 = v / 4096 % 2; omega
theorem low_14 {v z : Int} (z0 : 0 ≤ z) (z1 : z < 14) : v % 16384 / 2 ^ z.toNat % 2 = v / 2 ^ z.toNat % 2 := by
  rcases (by omega : z = 0 ∨ z = 1 ∨ z = 2 ∨ z = 3 ∨ z = 4 ∨ z = 5 ∨ z = 6 ∨ z = 7 ∨ z = 8 ∨ z = 9 ∨ z = 10 ∨ z = 11 ∨ z = 12 ∨ z = 13) with e | e | e | e | e | e | e | e | e | e | e | e | e | e
  · rw [e]; show v % 16384 / 1 % 2 = v / 1 % 2; omega
  · rw [e]; show v % 16384 / 2 % 2 = v / 2 % 2; omega
  · rw [e]; show v % 16384 / 4 % 2 = v / 4 % 2; omega
  · rw [e]; show v % 16384 / 8 % 2 = v / 8 % 2; omega
  · rw [e]; show v % 16384 / 16 % 2 = v / 16 % 2; omega
  · rw [e]; show v % 16384 / 32 % 2 = v / 32 % 2; omega
  · rw [e]; show v % 16384 / 64 % 2 = v / 64 % 2; omega
  · rw [e]; show v % 16384 / 128 % 2 = v / 128 % 2; omega
  · rw [e]; show v % 16384 / 256 % 2 = v / 256 % 2; omega
  · rw [e]; show v % 16384 / 512 % 2 = v / 512 % 2; omega
  · rw [e]; show v % 16384 / 1024 % 2 = v / 1024 % 2; omega
  · rw [e]; show v % 16384 / 2048 % 2 = v / 2048 % 2; omega
  · rw [e]; show v % 16384 / 4096 % 2 = v / 4096 % 2; omega
  · rw [e]; show v % 16384 / 8192 % 2 = v / 8192 % 2; omega
theorem low_15 {v z : Int} (z0 : 0 ≤ z) (z1 : z < 15) : v % 32768 / 2 ^ z.toNat % 2 = v / 2 ^ z.toNat % 2 := by
  rcases (by omega : z = 0 ∨ z = 1 ∨ z = 2 ∨ z = 3 ∨ z = 4 ∨ z = 5 ∨ z = 6 ∨ z = 7 ∨ z = 8 ∨ z = 9 ∨ z = 10 ∨ z = 11 ∨ z = 12 ∨ z = 13 ∨ z = 14) with e | e | e | e | e | e | e | e | e | e | e | e | e | e | e
  · rw [e]; show v % 32768 / 1 % 2 = v / 1 % 2; omega
  · rw [e]; show v % 32768 / 2 % 2 = v / 2 % 2; omega
  · rw [e]; show v % 32768 / 4 % 2 = v / 4 % 2; omega
  · rw [e]; show v % 32768 / 8 % 2 = v / 8 % 2; omega
  · rw [e]; show v % 32768 / 16 % 2 = v / 16 % 2; omega
  · rw [e]; show v % 32768 / 32 % 2 = v / 32 % 2; omega
  · rw [e]; show v % 32768 / 64 % 2 = v / 64 % 2; omega
  · rw [e]; show v % 32768 / 128 % 2 = v / 128 % 2; omega
  · rw [e]; show v % 32768 / 256 % 2 = v / 256 % 2; omega
  · rw [e]; show v % 32768 / 512 % 2 = v / 512 % 2; omega
  · rw [e]; show v % 32768 / 1024 % 2 = v / 1024 % 2; omega
  · rw [e]; show v % 32768 / 2048 % 2 = v / 2048 % 2; omega
  · rw [e]; show v % 32768 / 4096 % 2 = v / 4096 % 2; omega
  · rw [e]; show v % 32768 / 8192 % 2 = v / 8192 % 2; omega
  · rw [e]; show v % 32768 / 16384 % 2 = v / 16384 % 2; omega
theorem low_b {v z k : Int} (v0 : 0 ≤ v ∧ v < 65536) (k0 : 1 ≤ k ∧ k ≤ 15) (z0 : 0 ≤ z) (z1 : z < k) : ian (isr (ian v (isl 1 k - 1)) z) 1 = ian (isr v z) 1 := by
  rcases (by omega : k = 1 ∨ k = 2 ∨ k = 3 ∨ k = 4 ∨ k = 5 ∨ k = 6 ∨ k = 7 ∨ k = 8 ∨ k = 9 ∨ k = 10 ∨ k = 11 ∨ k = 12 ∨ k = 13 ∨ k = 14 ∨ k = 15) with e | e | e | e | e | e | e | e | e | e | e | e | e | e | e
  · rw [e, show isl 1 1 - 1 = 1 by decide, ian_1 v, isr_p (by omega) (by omega), isr_p (by omega) (by omega), ian_1, ian_1]; exact low_1 z0 (by omega)
  · rw [e, show isl 1 2 - 1 = 3 by decide, ian_3 v, isr_p (by omega) (by omega), isr_p (by omega) (by omega), ian_1, ian_1]; exact low_2 z0 (by omega)
  · rw [e, show isl 1 3 - 1 = 7 by decide, ian_7 v, isr_p (by omega) (by omega), isr_p (by omega) (by omega), ian_1, ian_1]; exact low_3 z0 (by omega)
  · rw [e, show isl 1 4 - 1 = 15 by decide, ian_15 v, isr_p (by omega) (by omega), isr_p (by omega) (by omega), ian_1, ian_1]; exact low_4 z0 (by omega)
  · rw [e, show isl 1 5 - 1 = 31 by decide, ian_31 v, isr_p (by omega) (by omega), isr_p (by omega) (by omega), ian_1, ian_1]; exact low_5 z0 (by omega)
  · rw [e, show isl 1 6 - 1 = 63 by decide, ian_63 v, isr_p (by omega) (by omega), isr_p (by omega) (by omega), ian_1, ian_1]; exact low_6 z0 (by omega)
  · rw [e, show isl 1 7 - 1 = 127 by decide, ian_127 v, isr_p (by omega) (by omega), isr_p (by omega) (by omega), ian_1, ian_1]; exact low_7 z0 (by omega)
  · rw [e, show isl 1 8 - 1 = 255 by decide, ian_255 v, isr_p (by omega) (by omega), isr_p (by omega) (by omega), ian_1, ian_1]; exact low_8 z0 (by omega)
  · rw [e, show isl 1 9 - 1 = 511 by decide, ian_511 v, isr_p (by omega) (by omega), isr_p (by omega) (by omega), ian_1, ian_1]; exact low_9 z0 (by omega)
  · rw [e, show isl 1 10 - 1 = 1023 by decide, ian_1023 v, isr_p (by omega) (by omega), isr_p (by omega) (by omega), ian_1, ian_1]; exact low_10 z0 (by omega)
  · rw [e, show isl 1 11 - 1 = 2047 by decide, ian_2047 v, isr_p (by omega) (by omega), isr_p (by omega) (by omega), ian_1, ian_1]; exact low_11 z0 (by omega)
  · rw [e, show isl 1 12 - 1 = 4095 by decide, ian_4095 v, isr_p (by omega) (by omega), isr_p (by omega) (by omega), ian_1, ian_1]; exact low_12 z0 (by omega)
  · rw [e, show isl 1 13 - 1 = 8191 by decide, ian_8191 v, isr_p (by omega) (by omega), isr_p (by omega) (by omega), ian_1, ian_1]; exact low_13 z0 (by omega)
  · rw [e, show isl 1 14 - 1 = 16383 by decide, ian_16383 v, isr_p (by omega) (by omega), isr_p (by omega) (by omega), ian_1, ian_1]; exact low_14 z0 (by omega)
  · rw [e, show isl 1 15 - 1 = 32767 by decide, ian_32767 v, isr_p (by omega) (by omega), isr_p (by omega) (by omega), ian_1, ian_1]; exact low_15 z0 (by omega)
end
