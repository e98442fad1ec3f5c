set_option maxRecDepth 100000
def spC (a j : Int) : Prop := a = 384 ∨ (404 ≤ a ∧ a ≤ 417)
/-- the first k streams are cut out, in the house -/
def TCUT (b : Int → Int) (s0 : Int) (k : Nat) (h : Mem) : Prop := ∀ q : Nat, q < k → h 384 q = 0 ∧ h (404 + 2 * (q : Int)) 1 = e4 b (s0 + 8 + 4 * q) ∧ ∀ i, 0 ≤ i → i < e4 b (s0 + 8 + 4 * q) → h (404 + 2 * (q : Int) + 1) i = b (s0 + 36 + tsum b s0 q + i)
section
variable {A B : Qt → Prop} {Φ : Out → Int → Mem → Out → Int → Mem → Prop} {KL KM : Qt → Qt} {n m : Int} {h w : Mem} {i s0 L e x5 x6 x7 x8 x9 x11 x13 : Int}
/-- the streams are cut out (183 from 202 on) -/
theorem c_split (O : RO h w) (SK : SKT h) (s00 : 0 ≤ s0 ∧ s0 + 36 + tsum (w 21) s0 7 ≤ h 277 1) (g0 : 1 ≤ x8 ∧ x8 ≤ 64)
    (fin : ∀ (h1 : Mem) (o16 : Option V), TCUT (w 21) s0 7 h1 → Fz spC h h1 → J2 (fun Q => T_at gC 183 290 [some (vR 25 382), some (vR 2 277), some (vI s0), some (vI L), some (vI e), some (vR 2 x5), some (vR 2 x6), some (vI x7), some (vI x8), some (vI x9), some (vI 1), some (vL x11), none, some (vI x13), some (vI (s0 + 36 + tsum (w 21) s0 7)), some (vI ((x8 + 31) / 32 * 4)), some (vI 0)] [] n (st h1 382 5 1) (KL Q)) B Φ) :
    J2 (fun Q => T_at gC 183 202 [some (vR 25 382), some (vR 2 277), some (vI s0), some (vI L), some (vI e), some (vR 2 x5), some (vR 2 x6), some (vI x7), some (vI x8), some (vI x9), some (vI 1), some (vL x11), none, some (vI x13), some (vI (s0 + 36)), some (vI 0), none] [] n h (KL Q)) B Φ := by
  have o3 := O.1.2.2
  have key : ∀ (d k : Nat) (h1 : Mem) (o16 : Option V), k + d = 7 → TCUT (w 21) s0 k h1 → Fz spC h h1 → J2 (fun Q => T_at gC 183 202 [some (vR 25 382), some (vR 2 277), some (vI s0), some (vI L), some (vI e), some (vR 2 x5), some (vR 2 x6), some (vI x7), some (vI x8), some (vI x9), some (vI 1), some (vL x11), none, some (vI x13), some (vI (s0 + 36 + tsum (w 21) s0 k)), some (vI k), o16] [] n h1 (KL Q)) B Φ := by
    intro d
    induction d with
    | zero =>
      intro k h1 o16 hk D F
      have k7 : k = 7 := by omega
      subst k7
      rw [show (((7 : Nat)) : Int) = 7 from rfl]
      refine J_impL (fun Q hq => blk (md := true) [17, 37, 87, 88, 98, 134, 161, 162, 181, 202, 290, 320, 345, 405, 406, 439, 502] 99 GC FC rfl k183 hq) ?_
      simp -implicitDefEqProofs only [r_iconst, r_bipush, r_sipush, r_ldc, r_ldc_w, r_lconst, r_ldc2_w, r_aconst_null, r_iload, r_iload_n, r_lload, r_lload_n, r_aload, r_aload_n, r_istore, r_istore_n, r_lstore, r_lstore_n, r_astore, r_astore_n, r_iinc, r_iadd, r_iaddW, r_isub, r_isubW, r_imul, r_imulW, r_ladd, r_laddW, r_lsub, r_lsubW, r_lmul, r_lmulW, r_iand, r_ior, r_ishl, r_ishr, r_iushr, r_land, r_lor, r_lshl, r_lshr, r_lushr, r_idiv, r_irem, r_ldiv, r_lrem, r_lcmp, r_ineg, r_i2l, r_l2i, r_i2b, r_i2s, r_i2c, r_dup, r_pop, r_dup_x1, r_dup_x2, r_dup2, r_dup2L, r_icmp_eq, r_icmp_ne, r_icmp_lt, r_icmp_ge, r_icmp_gt, r_icmp_le, r_if_eq, r_if_ne, r_if_lt, r_if_ge, r_if_gt, r_if_le, r_acmp_eq, r_acmp_ne, r_ifnull, r_ifnonnull, r_goto, r_nop, r_tsw, r_lsw, r_getfield, r_getfinal, r_putfield, r_getstaticL, r_getstaticR, r_iaload, r_baload, r_saload, r_laload, r_aaload, r_aaloadM, r_iastore, r_bastore, r_zastore, r_sastore, r_lastore, r_aastore, r_alen, r_new, r_newarray, r_anewarray, r_invV, r_invI, r_objI, r_invS, r_acp, r_ireturn, r_zreturn, r_lreturn, r_return, r_areturn, r_athrow, ↓e_pI, ↓e_pL, ↓e_pR, ↓e_lg0, ↓e_lg1, ↓e_tk0, ↓e_tkI0, ↓e_tkI1, ↓e_tkI2, ↓e_tkI3, ↓e_tkI4, ↓e_tkL, ↓e_tkR0_0, ↓e_tkR0_1, ↓e_tkR1_0, ↓e_tkR1_1, ↓e_tkR2_0, ↓e_tkR2_1, ↓e_tkR3_0, ↓e_tkR3_1, ↓e_tkR4_0, ↓e_tkR4_1, ↓e_tkR5_0, ↓e_tkR5_1, ↓e_tkR6_0, ↓e_tkR6_1, ↓e_tkR7_0, ↓e_tkR7_1, ↓e_tkR8_0, ↓e_tkR8_1, ↓e_tkR9_0, ↓e_tkR9_1, ↓e_tkR10_0, ↓e_tkR10_1, ↓e_tkR11_0, ↓e_tkR11_1, ↓e_tkR12_0, ↓e_tkR12_1, ↓e_tkR13_0, ↓e_tkR13_1, ↓e_tkR14_0, ↓e_tkR14_1, ↓e_tkR15_0, ↓e_tkR15_1, ↓e_tkR16_0, ↓e_tkR16_1, ↓e_tkR17_0, ↓e_tkR17_1, ↓e_tkR39_0, ↓e_tkR39_1, ↓e_tkR40_0, ↓e_tkR40_1, ↓e_tkR41_0, ↓e_tkR41_1, ↓e_tkR42_0, ↓e_tkR42_1, ↓e_tkR43_0, ↓e_tkR43_1, ↓e_tkR44_0, ↓e_tkR44_1, ↓e_tkR45_0, ↓e_tkR45_1, ↓e_tkR46_0, ↓e_tkR46_1, ↓e_tkR47_0, ↓e_tkR47_1, ↓e_tkR48_0, ↓e_tkR48_1, ↓e_pv0, ↓e_pv1, ↓e_pv2, ↓e_pv3, ↓e_pv5, ↓e_pvR, ↓e_tsw0, ↓e_tsw1, ↓e_lsw0, ↓e_lsw1, e_kq100, e_kq0, e_kq3, e_kq5, e_kqR0, e_kqR1, e_kqR2, e_kqR3, e_kqR4, e_kqR5, e_kqR6, e_kqR7, e_kqR8, e_kqR9, e_kqR10, e_kqR11, e_kqR12, e_kqR13, e_kqR14, e_kqR15, e_kqR16, e_kqR17, e_kqR39, e_kqR40, e_kqR41, e_kqR42, e_kqR43, e_kqR44, e_kqR45, e_kqR46, e_kqR47, e_kqR48, e_st0I, e_st0R, e_st0L, e_st1N, e_st1I, e_st1L, e_st1R, e_st2, e_wd0, e_wdI, e_wdL, e_wdR, e_c1I, e_c1R, e_gv0, e_gv1, e_gv2, e_gv3, e_gv4, e_gv5, e_gvR0, e_gvR1, e_gvR2, e_gvR3, e_gvR4, e_gvR5, e_gvR6, e_gvR7, e_gvR8, e_gvR9, e_gvR10, e_gvR11, e_gvR12, e_gvR13, e_gvR14, e_gvR15, e_gvR16, e_gvR17, e_gvR39, e_gvR40, e_gvR41, e_gvR42, e_gvR43, e_gvR44, e_gvR45, e_gvR46, e_gvR47, e_gvR48, e_kX0, e_kX1, e_kVv, e_kVx, e_kIv, e_kIx, e_kLv, e_kLx, e_kRv, e_kRx, e_thr, e_lk1, e_ic0, e_ic1, e_jm, st_ap, clr_ap, e_lceq, e_lclt, e_lcgt, nn, ↓reduceIte, Nat.reduceDiv, Nat.reduceMod, Nat.reduceMul, Nat.reduceAdd, Nat.reduceEqDiff, Nat.reduceLeDiff, Int.reduceNatCast, Int.cast_ofNat_Int, Int.reduceSub, Int.reduceMul, Int.reduceNeg, Int.reduceAdd, Int.reduceLE, Int.reduceLT, Int.reduceEq, Int.reduceNe, true_and, and_true, true_or, and_self, ne_eq, not_false_eq_true, Bool.false_eq_true, reduceCtorEq, rd_l1, rd_l2, rd_l3, rd_l4, rd_l5, rd_l6, rd_l7, rd_l8, rd_l9, SB, rd_ge, i2b_2, false_and, and_false, not_true_eq_false, l183_0, l183_10, l183_17, l183_29, l183_37, l183_87, l183_88, l183_98, l183_134, l183_161, l183_162, l183_181, l183_193, l183_202, l183_270, l183_290, l183_309, l183_320, l183_345, l183_357, l183_405, l183_406, l183_436, l183_439, l183_478, l183_484, l183_502, l183_514, s183_0, s183_10, s183_17, s183_29, s183_37, s183_87, s183_88, s183_98, s183_134, s183_161, s183_162, s183_181, s183_193, s183_202, s183_270, s183_290, s183_309, s183_320, s183_345, s183_357, s183_405, s183_406, s183_436, s183_439, s183_478, s183_484, s183_502, s183_514, zC_18, zC_20, zC_21, zC_22, zC_23, zC_25, zC_26, zC_253, zC_254, zC_256, zC_257, zC_259, zC_260, zC_262, zC_263, zC_265, zC_266, zC_268, zC_269, zC_271, zC_272, zC_274, zC_275, zC_278, zC_279, zC_280, zC_281, zC_282, zC_284, zC_285, zC_287, zC_288, zC_290, zC_291, zC_293, zC_294, zC_296, zC_297, zC_299, zC_300, zC_302, zC_303, zC_304, zC_305, zC_306, zC_307, zC_308, zC_309, zC_310, zC_311, zC_312, zC_315, zC_316, zC_317, zC_319, zC_320, zC_321, zC_323, zC_324, zC_325, zC_327, zC_328, zC_329, zC_331, zC_332, zC_333, zC_335, zC_336, zC_337, zC_339, zC_340, zC_341, zC_343, zC_344, zC_345, zC_347, zC_348, zC_349, zC_350, zC_351, zC_352, zC_353, zC_354, zC_355, zC_356, zC_357, zC_358, zC_359, zC_361, zC_362, zC_363, zC_364, zC_367, zC_368, zC_369, zC_370, zC_371, zC_372, zC_373, zC_374, zC_375, zC_376, zC_378, zC_380, zC_381, zC_383, zC_384, zC_386, zC_387, zC_389, zC_390, zC_391, zC_392, zC_393, zC_394, zC_395, zC_396, zC_397, zC_398, zC_400, zC_402, zC_403, zC_405, zC_407, zC_409, zC_411, zC_413, zC_415, zC_417, zC_420, zC_421, zC_422, zC_423, zC_424, zC_425, zC_427, zC_429, zC_431, zC_433, zC_436, zC_437, zC_438, zC_439, zC_440, zC_441, zC_442, zC_443, zC_444, zC_445, zC_447, zC_448, zC_450, zC_451, zC_453, zC_454, zC_455, zC_456, zC_457, zC_458, zC_460, zC_461, zC_462, zC_463, zC_464, zC_465, zC_466, zC_467, zC_468, zC_469, zC_471, zC_473, zC_474, zC_476, zC_477, zC_478, zC_479, zC_480, zC_481, zC_482, zC_483, zC_484, zC_485, zC_487, zC_489, zC_490, zC_491, zC_493, zC_495, zC_497, zC_499]
      rw [Int.tdiv_eq_ediv_of_nonneg (a := x8 + 31) (by omega)]
      exact J_andL (by unfold i32; omega) (J_andL (by unfold i32; omega) (J_andL (by unfold i32; omega) (fin h1 o16 D F)))
    | succ d ih =>
      intro k h1 o16 hk D F
      have tr := tsum_r (w 21) s0 k
      have tm := tsum_m (w 21) s0 (k + 1) d
      rw [show k + 1 + d = 7 by omega] at tm
      have er := e4_r (w 21) (s0 + 8 + 4 * k)
      have et : tsum (w 21) s0 (k + 1) = tsum (w 21) s0 k + e4 (w 21) (s0 + 8 + 4 * k) := rfl
      have hx : ∀ a j, ¬ spC a j → h1 a j = h a j := F
      have O1 : RO h1 w := ⟨⟨by rw [hx _ _ (by unfold spC; omega)]; exact O.1.1, by rw [hx _ _ (by unfold spC; omega)]; exact O.1.2.1, by rw [hx _ _ (by unfold spC; omega)]; exact o3⟩, fun i i0 i1 => by
        rw [hx _ _ (by unfold spC; omega)] at i1
        rw [hx _ _ (by unfold spC; omega)]; exact O.2 i i0 i1⟩
      have h77 : h1 277 1 = h 277 1 := hx _ _ (by unfold spC; omega)
      have sk : h1 383 k = 404 + 2 * k := by rw [hx _ _ (by unfold spC; omega)]; exact SK k (by omega) (by omega)
      have wr1 : wr (e4 (w 21) (s0 + 8 + 4 * k)) = e4 (w 21) (s0 + 8 + 4 * k) := wr_id (by constructor <;> omega)
      have zk := zstr (k := (k : Int)) (by omega)
      have c10 : st (st h1 (404 + 2 * (k : Int)) 1 0) (404 + 2 * (k : Int)) 2 0 (404 + 2 * (k : Int)) 1 = 0 := by rw [st_nj (by omega), st_eq]
      have cx : ∀ a j, a ≠ 404 + 2 * (k : Int) → st (st h1 (404 + 2 * (k : Int)) 1 0) (404 + 2 * (k : Int)) 2 0 a j = h1 a j := fun a j q => by rw [st_na q, st_na q]
      refine J_impL (fun Q hq => blk (md := true) [17, 37, 87, 88, 98, 134, 161, 162, 181, 202, 290, 320, 345, 405, 406, 439, 502] 99 GC FC rfl k183 hq) ?_
      simp -implicitDefEqProofs only [r_iconst, r_bipush, r_sipush, r_ldc, r_ldc_w, r_lconst, r_ldc2_w, r_aconst_null, r_iload, r_iload_n, r_lload, r_lload_n, r_aload, r_aload_n, r_istore, r_istore_n, r_lstore, r_lstore_n, r_astore, r_astore_n, r_iinc, r_iadd, r_iaddW, r_isub, r_isubW, r_imul, r_imulW, r_ladd, r_laddW, r_lsub, r_lsubW, r_lmul, r_lmulW, r_iand, r_ior, r_ishl, r_ishr, r_iushr, r_land, r_lor, r_lshl, r_lshr, r_lushr, r_idiv, r_irem, r_ldiv, r_lrem, r_lcmp, r_ineg, r_i2l, r_l2i, r_i2b, r_i2s, r_i2c, r_dup, r_pop, r_dup_x1, r_dup_x2, r_dup2, r_dup2L, r_icmp_eq, r_icmp_ne, r_icmp_lt, r_icmp_ge, r_icmp_gt, r_icmp_le, r_if_eq, r_if_ne, r_if_lt, r_if_ge, r_if_gt, r_if_le, r_acmp_eq, r_acmp_ne, r_ifnull, r_ifnonnull, r_goto, r_nop, r_tsw, r_lsw, r_getfield, r_getfinal, r_putfield, r_getstaticL, r_getstaticR, r_iaload, r_baload, r_saload, r_laload, r_aaload, r_aaloadM, r_iastore, r_bastore, r_zastore, r_sastore, r_lastore, r_aastore, r_alen, r_new, r_newarray, r_anewarray, r_invV, r_invI, r_objI, r_invS, r_acp, r_ireturn, r_zreturn, r_lreturn, r_return, r_areturn, r_athrow, ↓e_pI, ↓e_pL, ↓e_pR, ↓e_lg0, ↓e_lg1, ↓e_tk0, ↓e_tkI0, ↓e_tkI1, ↓e_tkI2, ↓e_tkI3, ↓e_tkI4, ↓e_tkL, ↓e_tkR0_0, ↓e_tkR0_1, ↓e_tkR1_0, ↓e_tkR1_1, ↓e_tkR2_0, ↓e_tkR2_1, ↓e_tkR3_0, ↓e_tkR3_1, ↓e_tkR4_0, ↓e_tkR4_1, ↓e_tkR5_0, ↓e_tkR5_1, ↓e_tkR6_0, ↓e_tkR6_1, ↓e_tkR7_0, ↓e_tkR7_1, ↓e_tkR8_0, ↓e_tkR8_1, ↓e_tkR9_0, ↓e_tkR9_1, ↓e_tkR10_0, ↓e_tkR10_1, ↓e_tkR11_0, ↓e_tkR11_1, ↓e_tkR12_0, ↓e_tkR12_1, ↓e_tkR13_0, ↓e_tkR13_1, ↓e_tkR14_0, ↓e_tkR14_1, ↓e_tkR15_0, ↓e_tkR15_1, ↓e_tkR16_0, ↓e_tkR16_1, ↓e_tkR17_0, ↓e_tkR17_1, ↓e_tkR39_0, ↓e_tkR39_1, ↓e_tkR40_0, ↓e_tkR40_1, ↓e_tkR41_0, ↓e_tkR41_1, ↓e_tkR42_0, ↓e_tkR42_1, ↓e_tkR43_0, ↓e_tkR43_1, ↓e_tkR44_0, ↓e_tkR44_1, ↓e_tkR45_0, ↓e_tkR45_1, ↓e_tkR46_0, ↓e_tkR46_1, ↓e_tkR47_0, ↓e_tkR47_1, ↓e_tkR48_0, ↓e_tkR48_1, ↓e_pv0, ↓e_pv1, ↓e_pv2, ↓e_pv3, ↓e_pv5, ↓e_pvR, ↓e_tsw0, ↓e_tsw1, ↓e_lsw0, ↓e_lsw1, e_kq100, e_kq0, e_kq3, e_kq5, e_kqR0, e_kqR1, e_kqR2, e_kqR3, e_kqR4, e_kqR5, e_kqR6, e_kqR7, e_kqR8, e_kqR9, e_kqR10, e_kqR11, e_kqR12, e_kqR13, e_kqR14, e_kqR15, e_kqR16, e_kqR17, e_kqR39, e_kqR40, e_kqR41, e_kqR42, e_kqR43, e_kqR44, e_kqR45, e_kqR46, e_kqR47, e_kqR48, e_st0I, e_st0R, e_st0L, e_st1N, e_st1I, e_st1L, e_st1R, e_st2, e_wd0, e_wdI, e_wdL, e_wdR, e_c1I, e_c1R, e_gv0, e_gv1, e_gv2, e_gv3, e_gv4, e_gv5, e_gvR0, e_gvR1, e_gvR2, e_gvR3, e_gvR4, e_gvR5, e_gvR6, e_gvR7, e_gvR8, e_gvR9, e_gvR10, e_gvR11, e_gvR12, e_gvR13, e_gvR14, e_gvR15, e_gvR16, e_gvR17, e_gvR39, e_gvR40, e_gvR41, e_gvR42, e_gvR43, e_gvR44, e_gvR45, e_gvR46, e_gvR47, e_gvR48, e_kX0, e_kX1, e_kVv, e_kVx, e_kIv, e_kIx, e_kLv, e_kLx, e_kRv, e_kRx, e_thr, e_lk1, e_ic0, e_ic1, e_jm, st_ap, clr_ap, e_lceq, e_lclt, e_lcgt, nn, ↓reduceIte, Nat.reduceDiv, Nat.reduceMod, Nat.reduceMul, Nat.reduceAdd, Nat.reduceEqDiff, Nat.reduceLeDiff, Int.reduceNatCast, Int.cast_ofNat_Int, Int.reduceSub, Int.reduceMul, Int.reduceNeg, Int.reduceAdd, Int.reduceLE, Int.reduceLT, Int.reduceEq, Int.reduceNe, true_and, and_true, true_or, and_self, ne_eq, not_false_eq_true, Bool.false_eq_true, reduceCtorEq, rd_l1, rd_l2, rd_l3, rd_l4, rd_l5, rd_l6, rd_l7, rd_l8, rd_l9, SB, rd_ge, i2b_2, false_and, and_false, not_true_eq_false, l183_0, l183_10, l183_17, l183_29, l183_37, l183_87, l183_88, l183_98, l183_134, l183_161, l183_162, l183_181, l183_193, l183_202, l183_270, l183_290, l183_309, l183_320, l183_345, l183_357, l183_405, l183_406, l183_436, l183_439, l183_478, l183_484, l183_502, l183_514, s183_0, s183_10, s183_17, s183_29, s183_37, s183_87, s183_88, s183_98, s183_134, s183_161, s183_162, s183_181, s183_193, s183_202, s183_270, s183_290, s183_309, s183_320, s183_345, s183_357, s183_405, s183_406, s183_436, s183_439, s183_478, s183_484, s183_502, s183_514, zC_18, zC_20, zC_21, zC_22, zC_23, zC_25, zC_26, zC_253, zC_254, zC_256, zC_257, zC_259, zC_260, zC_262, zC_263, zC_265, zC_266, zC_268, zC_269, zC_271, zC_272, zC_274, zC_275, zC_278, zC_279, zC_280, zC_281, zC_282, zC_284, zC_285, zC_287, zC_288, zC_290, zC_291, zC_293, zC_294, zC_296, zC_297, zC_299, zC_300, zC_302, zC_303, zC_304, zC_305, zC_306, zC_307, zC_308, zC_309, zC_310, zC_311, zC_312, zC_315, zC_316, zC_317, zC_319, zC_320, zC_321, zC_323, zC_324, zC_325, zC_327, zC_328, zC_329, zC_331, zC_332, zC_333, zC_335, zC_336, zC_337, zC_339, zC_340, zC_341, zC_343, zC_344, zC_345, zC_347, zC_348, zC_349, zC_350, zC_351, zC_352, zC_353, zC_354, zC_355, zC_356, zC_357, zC_358, zC_359, zC_361, zC_362, zC_363, zC_364, zC_367, zC_368, zC_369, zC_370, zC_371, zC_372, zC_373, zC_374, zC_375, zC_376, zC_378, zC_380, zC_381, zC_383, zC_384, zC_386, zC_387, zC_389, zC_390, zC_391, zC_392, zC_393, zC_394, zC_395, zC_396, zC_397, zC_398, zC_400, zC_402, zC_403, zC_405, zC_407, zC_409, zC_411, zC_413, zC_415, zC_417, zC_420, zC_421, zC_422, zC_423, zC_424, zC_425, zC_427, zC_429, zC_431, zC_433, zC_436, zC_437, zC_438, zC_439, zC_440, zC_441, zC_442, zC_443, zC_444, zC_445, zC_447, zC_448, zC_450, zC_451, zC_453, zC_454, zC_455, zC_456, zC_457, zC_458, zC_460, zC_461, zC_462, zC_463, zC_464, zC_465, zC_466, zC_467, zC_468, zC_469, zC_471, zC_473, zC_474, zC_476, zC_477, zC_478, zC_479, zC_480, zC_481, zC_482, zC_483, zC_484, zC_485, zC_487, zC_489, zC_490, zC_491, zC_493, zC_495, zC_497, zC_499]
      refine J_posL (by omega) (J_andL (by unfold i32; omega) (J_andL (by unfold i32; omega) (J_andL (by unfold i32; omega) (J_LI (ro_u4 O1 (by omega) (by omega)) ?_))))
      rw [wr1, sk]
      refine J_andL (by omega) (J_andL (by omega) (J_andL (by omega) (J_LV c_clear ?_)))
      rw [cx 383 k (by omega), sk]
      refine J_andL (by omega) (J_andL (by omega) (J_andL (by omega) (J_LV (c_append (o := 404 + 2 * (k : Int)) (p := 277) (f := s0 + 36 + tsum (w 21) s0 k) (c := e4 (w 21) (s0 + 8 + 4 * k)) (by omega) (by omega) (by omega) (by omega) er.1 (by omega) (by rw [c10, zk]; omega) (by rw [show ((gC.1 (277 + 1)).2 : Int) = 16000 from rfl]; omega)) ?_)))
      have HA : apC (st (st h1 (404 + 2 * (k : Int)) 1 0) (404 + 2 * (k : Int)) 2 0) (404 + 2 * (k : Int)) 277 (s0 + 36 + tsum (w 21) s0 k) (e4 (w 21) (s0 + 8 + 4 * k)) (404 + 2 * (k : Int)) 1 = e4 (w 21) (s0 + 8 + 4 * k) := by unfold apC; rw [st_eq, c10]; omega
      have HB : ∀ i, 0 ≤ i → i < e4 (w 21) (s0 + 8 + 4 * k) → apC (st (st h1 (404 + 2 * (k : Int)) 1 0) (404 + 2 * (k : Int)) 2 0) (404 + 2 * (k : Int)) 277 (s0 + 36 + tsum (w 21) s0 k) (e4 (w 21) (s0 + 8 + 4 * k)) (404 + 2 * (k : Int) + 1) i = w 21 (s0 + 36 + tsum (w 21) s0 k + i) := fun i i0 i1 => by
        unfold apC
        rw [st_na (by omega), c10, cpy_ap, if_pos (by omega), rd_ge (by omega), cx _ _ (by omega), show (277 + 1 : Int) = 278 from rfl, show s0 + 36 + tsum (w 21) s0 k + (i - 0) = s0 + 36 + tsum (w 21) s0 k + i by omega]
        exact (O1.2 _ (by omega) (by omega)).1
      have HC : ∀ a j, a ≠ 404 + 2 * (k : Int) → a ≠ 404 + 2 * (k : Int) + 1 → apC (st (st h1 (404 + 2 * (k : Int)) 1 0) (404 + 2 * (k : Int)) 2 0) (404 + 2 * (k : Int)) 277 (s0 + 36 + tsum (w 21) s0 k) (e4 (w 21) (s0 + 8 + 4 * k)) a j = h1 a j := fun a j q1 q2 => by
        unfold apC
        rw [st_na q1, cpy_ap, if_neg (by omega)]
        exact cx a j q1
      generalize apC (st (st h1 (404 + 2 * (k : Int)) 1 0) (404 + 2 * (k : Int)) 2 0) (404 + 2 * (k : Int)) 277 (s0 + 36 + tsum (w 21) s0 k) (e4 (w 21) (s0 + 8 + 4 * k)) = h2 at *
      refine J_andL (by omega) (J_andL (by omega) (J_andL (by unfold i32; omega) (J_andL (by unfold i32; omega) ?_)))
      have nx := ih (k + 1) (st h2 384 k 0) (some (vI (e4 (w 21) (s0 + 8 + 4 * k)))) (by omega) (fun q hq => by
        by_cases z : q = k
        · subst z
          rw [st_eq, st_na (by omega), HA]
          exact ⟨rfl, rfl, fun i i0 i1 => by rw [st_na (by omega)]; exact HB i i0 i1⟩
        · obtain ⟨d1, d2, d3⟩ := D q (by omega)
          rw [st_nj (by omega), st_na (by omega), HC _ _ (by omega) (by omega), HC _ _ (by omega) (by omega)]
          exact ⟨d1, d2, fun i i0 i1 => by rw [st_na (by omega), HC _ _ (by omega) (by omega)]; exact d3 i i0 i1⟩) (Fz_st (fun a j q => by rw [HC a j (by unfold spC at q; omega) (by unfold spC at q; omega)]; exact F a j q) (by unfold spC; omega))
      rw [show ((k + 1 : Nat) : Int) = (k : Int) + 1 by omega, et, show s0 + 36 + (tsum (w 21) s0 k + e4 (w 21) (s0 + 8 + 4 * k)) = s0 + 36 + tsum (w 21) s0 k + e4 (w 21) (s0 + 8 + 4 * k) by omega] at nx
      exact nx
  have st0 := key 7 0 h none rfl (fun q hq => by omega) Fz_0
  rw [show s0 + 36 + tsum (w 21) s0 0 = s0 + 36 by simp only [tsum]; omega] at st0
  exact st0
/-- both read the same streams -/
theorem TCUT_p {h1 w1 : Mem} (O : RO h w) (SK : SKT h1) (s00 : 0 ≤ s0 ∧ s0 + 36 + tsum (w 21) s0 7 ≤ 16000) (bs : s0 + 36 + tsum (w 21) s0 7 ≤ h 277 1) (C : TCUT (w 21) s0 7 h1) (ew : ∀ k : Nat, k < 7 → w1 117 k = s0 + 36 + tsum (w 21) s0 k ∧ w1 118 k = s0 + 36 + tsum (w 21) s0 (k + 1)) (e21 : w1 21 = w 21) : TSp h1 w1 := by
  have nn : ∀ k, 0 ≤ k → k < 7 → ∃ q : Nat, q < 7 ∧ k = (q : Int) := fun k k0 k1 => ⟨k.toNat, by omega, by omega⟩
  refine ⟨⟨SK, fun k k0 k1 => ?_⟩, fun k k0 k1 => ?_⟩
  · obtain ⟨q, q7, rfl⟩ := nn k k0 k1
    obtain ⟨d1, d2, d3⟩ := C q q7
    have tr := tsum_r (w 21) s0 q
    have tm := tsum_m (w 21) s0 (q + 1) (6 - q)
    rw [show q + 1 + (6 - q) = 7 by omega] at tm
    have et : tsum (w 21) s0 (q + 1) = tsum (w 21) s0 q + e4 (w 21) (s0 + 8 + 4 * q) := rfl
    have er := e4_r (w 21) (s0 + 8 + 4 * q)
    rw [d1, d2]; omega
  · obtain ⟨q, q7, rfl⟩ := nn k k0 k1
    obtain ⟨d1, d2, d3⟩ := C q q7
    obtain ⟨p1, p2⟩ := ew q q7
    have tr := tsum_r (w 21) s0 q
    have tm := tsum_m (w 21) s0 (q + 1) (6 - q)
    rw [show q + 1 + (6 - q) = 7 by omega] at tm
    have et : tsum (w 21) s0 (q + 1) = tsum (w 21) s0 q + e4 (w 21) (s0 + 8 + 4 * q) := rfl
    have er := e4_r (w 21) (s0 + 8 + 4 * q)
    rw [d1, d2, p1, p2]
    refine ⟨by omega, fun i i0 i1 => ?_⟩
    rw [d3 i i0 i1, e21, show s0 + 36 + tsum (w 21) s0 q - 0 + i = s0 + 36 + tsum (w 21) s0 q + i by omega]
    have b := O.2 (s0 + 36 + tsum (w 21) s0 q + i) (by omega) (by omega)
    exact ⟨rfl, by rw [← b.1]; exact b.2.1, by rw [← b.1]; exact b.2.2⟩
end
