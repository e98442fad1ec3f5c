set_option maxRecDepth 100000
def svC (a j : Int) : Prop := stC a j ∨ vwC a j
def svM (a j : Int) : Prop := stM a j ∨ vgM a j
/-- post of the changes of glyphs -/
def PSV (n m : Int) (h w : Mem) : Out → Int → Mem → Out → Int → Mem → Prop := fun o n1 h1 o' m1 w1 => (∃ x, o = .inl (some (vI x)) ∧ o' = .inl (some (vI x))) ∧ n1 = n ∧ m1 = m ∧ RST h1 w1 ∧ Fz svC h h1 ∧ Fz svM w w1
/-- two bytes set, in the house and in the model -/
def s2h (k i v : Int) (h : Mem) : Mem := st (st h (29 + 2 * k) i (i2b (isr v 8))) (29 + 2 * k) (i + 1) (i2b v)
def s2w (b i v : Int) (w : Mem) : Mem := st (st w 52 (12000 * b + i) (i2b (isr v 8))) 52 (12000 * b + i + 1) (i2b v)
theorem s2_by {k b i v N : Int} {h w : Mem} (H : ∀ j, 0 ≤ j → j < N → h (29 + 2 * k) j = w 52 (12000 * b + j) ∧ -128 ≤ h (29 + 2 * k) j ∧ h (29 + 2 * k) j ≤ 127) : ∀ j, 0 ≤ j → j < N → s2h k i v h (29 + 2 * k) j = s2w b i v w 52 (12000 * b + j) ∧ -128 ≤ s2h k i v h (29 + 2 * k) j ∧ s2h k i v h (29 + 2 * k) j ≤ 127 := by
  intro j j0 j1
  unfold s2h s2w
  by_cases e : j = i + 1
  · rw [e, st_eq, show 12000 * b + (i + 1) = 12000 * b + i + 1 by omega, st_eq]
    exact ⟨rfl, i2b_r _⟩
  · rw [st_nj (show j ≠ i + 1 from e), st_nj (show 12000 * b + j ≠ 12000 * b + i + 1 by omega)]
    by_cases e2 : j = i
    · rw [e2, st_eq, st_eq]
      exact ⟨rfl, i2b_r _⟩
    · rw [st_nj (show j ≠ i from e2), st_nj (show 12000 * b + j ≠ 12000 * b + i by omega)]
      exact H j j0 j1
theorem s2h_f {k i v : Int} {h : Mem} : Fz (fun a _ => a = 29 + 2 * k) h (s2h k i v h) := fun a j g => by
  have g' : a ≠ 29 + 2 * k := g
  unfold s2h
  rw [st_na g', st_na g']
theorem s2w_f {b i v : Int} {w : Mem} (i0 : 0 ≤ i ∧ i + 1 < 12000) : Fz (fun a j => a = 52 ∧ 12000 * b ≤ j ∧ j < 12000 * b + 12000) w (s2w b i v w) := by unfold s2w; exact Fz_st (Fz_st Fz_0 (by omega)) (by omega)
section
variable {A B : Qt → Prop} {Φ : Out → Int → Mem → Out → Int → Mem → Prop} {KL KM : Qt → Qt} {n m : Int} {h w : Mem}
theorem c_set2 {k i v : Int} (k0 : 0 ≤ k ∧ k < 112) (i0 : 0 ≤ i ∧ i + 1 < 12000) : Ev gC 125 [vR 3 (28 + 2 * k), vI i, vI v] n h (.inl none) n (s2h k i v h) := by
  intro Q hQ
  have z := bsz k0
  refine T_go (md := true) [some (vR 3 (28 + 2 * k)), some (vI i), some (vI v)] [] 99 (by decide) rfl (Nat.le_of_ble_eq_true rfl) GC FC rfl k125 ?_
  simp -implicitDefEqProofs only [r_iconst, r_bipush, r_sipush, r_ldc, r_ldc_w, r_lconst, r_ldc2_w, r_aconst_null, r_iload, r_iload_n, r_lload, r_lload_n, r_aload, r_aload_n, r_istore, r_istore_n, r_lstore, r_lstore_n, r_astore, r_astore_n, r_iinc, r_iadd, r_iaddW, r_isub, r_isubW, r_imul, r_imulW, r_ladd, r_laddW, r_lsub, r_lsubW, r_lmul, r_lmulW, r_iand, r_ior, r_ishl, r_ishr, r_iushr, r_land, r_lor, r_lshl, r_lshr, r_lushr, r_idiv, r_irem, r_ldiv, r_lrem, r_lcmp, r_ineg, r_i2l, r_l2i, r_i2b, r_i2s, r_i2c, r_dup, r_pop, r_dup_x1, r_dup_x2, r_dup2, r_dup2L, r_icmp_eq, r_icmp_ne, r_icmp_lt, r_icmp_ge, r_icmp_gt, r_icmp_le, r_if_eq, r_if_ne, r_if_lt, r_if_ge, r_if_gt, r_if_le, r_acmp_eq, r_acmp_ne, r_ifnull, r_ifnonnull, r_goto, r_nop, r_tsw, r_lsw, r_getfield, r_getfinal, r_putfield, r_getstaticL, r_getstaticR, r_iaload, r_baload, r_saload, r_laload, r_aaload, r_aaloadM, r_iastore, r_bastore, r_zastore, r_sastore, r_lastore, r_aastore, r_alen, r_new, r_newarray, r_anewarray, r_invV, r_invI, r_objI, r_invS, r_acp, r_ireturn, r_zreturn, r_lreturn, r_return, r_areturn, r_athrow, ↓e_pI, ↓e_pL, ↓e_pR, ↓e_lg0, ↓e_lg1, ↓e_tk0, ↓e_tkI0, ↓e_tkI1, ↓e_tkI2, ↓e_tkI3, ↓e_tkI4, ↓e_tkL, ↓e_tkR0_0, ↓e_tkR0_1, ↓e_tkR1_0, ↓e_tkR1_1, ↓e_tkR2_0, ↓e_tkR2_1, ↓e_tkR3_0, ↓e_tkR3_1, ↓e_tkR4_0, ↓e_tkR4_1, ↓e_tkR5_0, ↓e_tkR5_1, ↓e_tkR6_0, ↓e_tkR6_1, ↓e_tkR7_0, ↓e_tkR7_1, ↓e_tkR8_0, ↓e_tkR8_1, ↓e_tkR9_0, ↓e_tkR9_1, ↓e_tkR10_0, ↓e_tkR10_1, ↓e_tkR11_0, ↓e_tkR11_1, ↓e_tkR12_0, ↓e_tkR12_1, ↓e_tkR13_0, ↓e_tkR13_1, ↓e_tkR14_0, ↓e_tkR14_1, ↓e_tkR15_0, ↓e_tkR15_1, ↓e_tkR16_0, ↓e_tkR16_1, ↓e_tkR17_0, ↓e_tkR17_1, ↓e_tkR39_0, ↓e_tkR39_1, ↓e_tkR40_0, ↓e_tkR40_1, ↓e_tkR41_0, ↓e_tkR41_1, ↓e_tkR42_0, ↓e_tkR42_1, ↓e_tkR43_0, ↓e_tkR43_1, ↓e_tkR44_0, ↓e_tkR44_1, ↓e_tkR45_0, ↓e_tkR45_1, ↓e_tkR46_0, ↓e_tkR46_1, ↓e_tkR47_0, ↓e_tkR47_1, ↓e_tkR48_0, ↓e_tkR48_1, ↓e_pv0, ↓e_pv1, ↓e_pv2, ↓e_pv3, ↓e_pv5, ↓e_pvR, ↓e_tsw0, ↓e_tsw1, ↓e_lsw0, ↓e_lsw1, e_kq100, e_kq0, e_kq3, e_kq5, e_kqR0, e_kqR1, e_kqR2, e_kqR3, e_kqR4, e_kqR5, e_kqR6, e_kqR7, e_kqR8, e_kqR9, e_kqR10, e_kqR11, e_kqR12, e_kqR13, e_kqR14, e_kqR15, e_kqR16, e_kqR17, e_kqR39, e_kqR40, e_kqR41, e_kqR42, e_kqR43, e_kqR44, e_kqR45, e_kqR46, e_kqR47, e_kqR48, e_st0I, e_st0R, e_st0L, e_st1N, e_st1I, e_st1L, e_st1R, e_st2, e_wd0, e_wdI, e_wdL, e_wdR, e_c1I, e_c1R, e_gv0, e_gv1, e_gv2, e_gv3, e_gv4, e_gv5, e_gvR0, e_gvR1, e_gvR2, e_gvR3, e_gvR4, e_gvR5, e_gvR6, e_gvR7, e_gvR8, e_gvR9, e_gvR10, e_gvR11, e_gvR12, e_gvR13, e_gvR14, e_gvR15, e_gvR16, e_gvR17, e_gvR39, e_gvR40, e_gvR41, e_gvR42, e_gvR43, e_gvR44, e_gvR45, e_gvR46, e_gvR47, e_gvR48, e_kX0, e_kX1, e_kVv, e_kVx, e_kIv, e_kIx, e_kLv, e_kLx, e_kRv, e_kRx, e_thr, e_lk1, e_ic0, e_ic1, e_jm, st_ap, clr_ap, e_lceq, e_lclt, e_lcgt, nn, ↓reduceIte, Nat.reduceDiv, Nat.reduceMod, Nat.reduceMul, Nat.reduceAdd, Nat.reduceEqDiff, Nat.reduceLeDiff, Int.reduceNatCast, Int.cast_ofNat_Int, Int.reduceSub, Int.reduceMul, Int.reduceNeg, Int.reduceAdd, Int.reduceLE, Int.reduceLT, Int.reduceEq, Int.reduceNe, true_and, and_true, true_or, and_self, ne_eq, not_false_eq_true, Bool.false_eq_true, reduceCtorEq, rd_l1, rd_l2, rd_l3, rd_l4, rd_l5, rd_l6, rd_l7, rd_l8, rd_l9, SB, rd_ge, i2b_2, false_and, and_false, not_true_eq_false, l125_0, s125_0, zC_18, zC_20, zC_21, zC_22, zC_23, zC_25, zC_26, zC_253, zC_254, zC_256, zC_257, zC_259, zC_260, zC_262, zC_263, zC_265, zC_266, zC_268, zC_269, zC_271, zC_272, zC_274, zC_275, zC_278, zC_279, zC_280, zC_281, zC_282, zC_284, zC_285, zC_287, zC_288, zC_290, zC_291, zC_293, zC_294, zC_296, zC_297, zC_299, zC_300, zC_302, zC_303, zC_304, zC_305, zC_306, zC_307, zC_308, zC_309, zC_310, zC_311, zC_312, zC_315, zC_316, zC_317, zC_319, zC_320, zC_321, zC_323, zC_324, zC_325, zC_327, zC_328, zC_329, zC_331, zC_332, zC_333, zC_335, zC_336, zC_337, zC_339, zC_340, zC_341, zC_343, zC_344, zC_345, zC_347, zC_348, zC_349, zC_350, zC_351, zC_352, zC_353, zC_354, zC_355, zC_356, zC_357, zC_358, zC_359, zC_361, zC_362, zC_363, zC_364, zC_367, zC_368, zC_369, zC_370, zC_371, zC_372, zC_373, zC_374, zC_375, zC_376, zC_378, zC_380, zC_381, zC_383, zC_384, zC_386, zC_387, zC_389, zC_390, zC_391, zC_392, zC_393, zC_394, zC_395, zC_396, zC_397, zC_398, zC_400, zC_402, zC_403, zC_405, zC_407, zC_409, zC_411, zC_413, zC_415, zC_417, zC_420, zC_421, zC_422, zC_423, zC_424, zC_425, zC_427, zC_429, zC_431, zC_433, zC_436, zC_437, zC_438, zC_439, zC_440, zC_441, zC_442, zC_443, zC_444, zC_445, zC_447, zC_448, zC_450, zC_451, zC_453, zC_454, zC_455, zC_456, zC_457, zC_458, zC_460, zC_461, zC_462, zC_463, zC_464, zC_465, zC_466, zC_467, zC_468, zC_469, zC_471, zC_473, zC_474, zC_476, zC_477, zC_478, zC_479, zC_480, zC_481, zC_482, zC_483, zC_484, zC_485, zC_487, zC_489, zC_490, zC_491, zC_493, zC_495, zC_497, zC_499]
  rw [show 28 + 2 * k + 1 = 29 + 2 * k by omega, z]
  unfold s2h at hQ
  exact ⟨by omega, by omega, by unfold i32; omega, by omega, by omega, hQ⟩
theorem m_set2 {b i v : Int} (b0 : 0 ≤ b ∧ b < 120) (i0 : 0 ≤ i ∧ i + 1 < 12000) : Ev gM 318 [vR 33 17, vI b, vI i, vI v] m w (.inl none) m (s2w b i v w) := m_setTwo b0 i0
theorem c_153 {g wd : Int} (g0 : 0 ≤ g ∧ g ≤ 64) (w0 : 0 ≤ wd ∧ wd ≤ 64) : Ev gC 153 [vI g, vI wd] n h (.inl (some (vI (hmB wd g)))) n h := by
  intro Q hQ
  refine T_go (md := true) [some (vI g), some (vI wd)] [] 99 (by decide) rfl (Nat.le_of_ble_eq_true rfl) GC FC rfl k153 ?_
  simp -implicitDefEqProofs only [r_iconst, r_bipush, r_sipush, r_ldc, r_ldc_w, r_lconst, r_ldc2_w, r_aconst_null, r_iload, r_iload_n, r_lload, r_lload_n, r_aload, r_aload_n, r_istore, r_istore_n, r_lstore, r_lstore_n, r_astore, r_astore_n, r_iinc, r_iadd, r_iaddW, r_isub, r_isubW, r_imul, r_imulW, r_ladd, r_laddW, r_lsub, r_lsubW, r_lmul, r_lmulW, r_iand, r_ior, r_ishl, r_ishr, r_iushr, r_land, r_lor, r_lshl, r_lshr, r_lushr, r_idiv, r_irem, r_ldiv, r_lrem, r_lcmp, r_ineg, r_i2l, r_l2i, r_i2b, r_i2s, r_i2c, r_dup, r_pop, r_dup_x1, r_dup_x2, r_dup2, r_dup2L, r_icmp_eq, r_icmp_ne, r_icmp_lt, r_icmp_ge, r_icmp_gt, r_icmp_le, r_if_eq, r_if_ne, r_if_lt, r_if_ge, r_if_gt, r_if_le, r_acmp_eq, r_acmp_ne, r_ifnull, r_ifnonnull, r_goto, r_nop, r_tsw, r_lsw, r_getfield, r_getfinal, r_putfield, r_getstaticL, r_getstaticR, r_iaload, r_baload, r_saload, r_laload, r_aaload, r_aaloadM, r_iastore, r_bastore, r_zastore, r_sastore, r_lastore, r_aastore, r_alen, r_new, r_newarray, r_anewarray, r_invV, r_invI, r_objI, r_invS, r_acp, r_ireturn, r_zreturn, r_lreturn, r_return, r_areturn, r_athrow, ↓e_pI, ↓e_pL, ↓e_pR, ↓e_lg0, ↓e_lg1, ↓e_tk0, ↓e_tkI0, ↓e_tkI1, ↓e_tkI2, ↓e_tkI3, ↓e_tkI4, ↓e_tkL, ↓e_tkR0_0, ↓e_tkR0_1, ↓e_tkR1_0, ↓e_tkR1_1, ↓e_tkR2_0, ↓e_tkR2_1, ↓e_tkR3_0, ↓e_tkR3_1, ↓e_tkR4_0, ↓e_tkR4_1, ↓e_tkR5_0, ↓e_tkR5_1, ↓e_tkR6_0, ↓e_tkR6_1, ↓e_tkR7_0, ↓e_tkR7_1, ↓e_tkR8_0, ↓e_tkR8_1, ↓e_tkR9_0, ↓e_tkR9_1, ↓e_tkR10_0, ↓e_tkR10_1, ↓e_tkR11_0, ↓e_tkR11_1, ↓e_tkR12_0, ↓e_tkR12_1, ↓e_tkR13_0, ↓e_tkR13_1, ↓e_tkR14_0, ↓e_tkR14_1, ↓e_tkR15_0, ↓e_tkR15_1, ↓e_tkR16_0, ↓e_tkR16_1, ↓e_tkR17_0, ↓e_tkR17_1, ↓e_tkR39_0, ↓e_tkR39_1, ↓e_tkR40_0, ↓e_tkR40_1, ↓e_tkR41_0, ↓e_tkR41_1, ↓e_tkR42_0, ↓e_tkR42_1, ↓e_tkR43_0, ↓e_tkR43_1, ↓e_tkR44_0, ↓e_tkR44_1, ↓e_tkR45_0, ↓e_tkR45_1, ↓e_tkR46_0, ↓e_tkR46_1, ↓e_tkR47_0, ↓e_tkR47_1, ↓e_tkR48_0, ↓e_tkR48_1, ↓e_pv0, ↓e_pv1, ↓e_pv2, ↓e_pv3, ↓e_pv5, ↓e_pvR, ↓e_tsw0, ↓e_tsw1, ↓e_lsw0, ↓e_lsw1, e_kq100, e_kq0, e_kq3, e_kq5, e_kqR0, e_kqR1, e_kqR2, e_kqR3, e_kqR4, e_kqR5, e_kqR6, e_kqR7, e_kqR8, e_kqR9, e_kqR10, e_kqR11, e_kqR12, e_kqR13, e_kqR14, e_kqR15, e_kqR16, e_kqR17, e_kqR39, e_kqR40, e_kqR41, e_kqR42, e_kqR43, e_kqR44, e_kqR45, e_kqR46, e_kqR47, e_kqR48, e_st0I, e_st0R, e_st0L, e_st1N, e_st1I, e_st1L, e_st1R, e_st2, e_wd0, e_wdI, e_wdL, e_wdR, e_c1I, e_c1R, e_gv0, e_gv1, e_gv2, e_gv3, e_gv4, e_gv5, e_gvR0, e_gvR1, e_gvR2, e_gvR3, e_gvR4, e_gvR5, e_gvR6, e_gvR7, e_gvR8, e_gvR9, e_gvR10, e_gvR11, e_gvR12, e_gvR13, e_gvR14, e_gvR15, e_gvR16, e_gvR17, e_gvR39, e_gvR40, e_gvR41, e_gvR42, e_gvR43, e_gvR44, e_gvR45, e_gvR46, e_gvR47, e_gvR48, e_kX0, e_kX1, e_kVv, e_kVx, e_kIv, e_kIx, e_kLv, e_kLx, e_kRv, e_kRx, e_thr, e_lk1, e_ic0, e_ic1, e_jm, st_ap, clr_ap, e_lceq, e_lclt, e_lcgt, nn, ↓reduceIte, Nat.reduceDiv, Nat.reduceMod, Nat.reduceMul, Nat.reduceAdd, Nat.reduceEqDiff, Nat.reduceLeDiff, Int.reduceNatCast, Int.cast_ofNat_Int, Int.reduceSub, Int.reduceMul, Int.reduceNeg, Int.reduceAdd, Int.reduceLE, Int.reduceLT, Int.reduceEq, Int.reduceNe, true_and, and_true, true_or, and_self, ne_eq, not_false_eq_true, Bool.false_eq_true, reduceCtorEq, rd_l1, rd_l2, rd_l3, rd_l4, rd_l5, rd_l6, rd_l7, rd_l8, rd_l9, SB, rd_ge, i2b_2, false_and, and_false, not_true_eq_false, l153_0, l153_13, l153_22, s153_0, s153_13, s153_22, zC_18, zC_20, zC_21, zC_22, zC_23, zC_25, zC_26, zC_253, zC_254, zC_256, zC_257, zC_259, zC_260, zC_262, zC_263, zC_265, zC_266, zC_268, zC_269, zC_271, zC_272, zC_274, zC_275, zC_278, zC_279, zC_280, zC_281, zC_282, zC_284, zC_285, zC_287, zC_288, zC_290, zC_291, zC_293, zC_294, zC_296, zC_297, zC_299, zC_300, zC_302, zC_303, zC_304, zC_305, zC_306, zC_307, zC_308, zC_309, zC_310, zC_311, zC_312, zC_315, zC_316, zC_317, zC_319, zC_320, zC_321, zC_323, zC_324, zC_325, zC_327, zC_328, zC_329, zC_331, zC_332, zC_333, zC_335, zC_336, zC_337, zC_339, zC_340, zC_341, zC_343, zC_344, zC_345, zC_347, zC_348, zC_349, zC_350, zC_351, zC_352, zC_353, zC_354, zC_355, zC_356, zC_357, zC_358, zC_359, zC_361, zC_362, zC_363, zC_364, zC_367, zC_368, zC_369, zC_370, zC_371, zC_372, zC_373, zC_374, zC_375, zC_376, zC_378, zC_380, zC_381, zC_383, zC_384, zC_386, zC_387, zC_389, zC_390, zC_391, zC_392, zC_393, zC_394, zC_395, zC_396, zC_397, zC_398, zC_400, zC_402, zC_403, zC_405, zC_407, zC_409, zC_411, zC_413, zC_415, zC_417, zC_420, zC_421, zC_422, zC_423, zC_424, zC_425, zC_427, zC_429, zC_431, zC_433, zC_436, zC_437, zC_438, zC_439, zC_440, zC_441, zC_442, zC_443, zC_444, zC_445, zC_447, zC_448, zC_450, zC_451, zC_453, zC_454, zC_455, zC_456, zC_457, zC_458, zC_460, zC_461, zC_462, zC_463, zC_464, zC_465, zC_466, zC_467, zC_468, zC_469, zC_471, zC_473, zC_474, zC_476, zC_477, zC_478, zC_479, zC_480, zC_481, zC_482, zC_483, zC_484, zC_485, zC_487, zC_489, zC_490, zC_491, zC_493, zC_495, zC_497, zC_499]
  unfold hmB at hQ
  by_cases q : g < wd
  · rw [if_pos q] at hQ
    rw [if_pos q]
    exact ⟨by unfold i32; omega, by unfold i32; omega, hQ⟩
  · rw [if_neg q] at hQ
    rw [if_neg q]
    refine ⟨by unfold i32; omega, by unfold i32; omega, by unfold i32; omega, by unfold i32; omega, ?_⟩
    rw [show 4 * wd + 2 * (g - wd) = 2 * (wd + g) by omega]
    exact hQ
theorem c_isShort {x : Int} : Ev gC 88 [vI x] n h (.inl (some (vI (bz (-32768 ≤ x ∧ x ≤ 32767))))) n h := by
  intro Q hQ
  refine T_go (md := true) [some (vI x)] [] 99 (by decide) rfl (Nat.le_of_ble_eq_true rfl) GC FC rfl k88 ?_
  simp -implicitDefEqProofs only [r_iconst, r_bipush, r_sipush, r_ldc, r_ldc_w, r_lconst, r_ldc2_w, r_aconst_null, r_iload, r_iload_n, r_lload, r_lload_n, r_aload, r_aload_n, r_istore, r_istore_n, r_lstore, r_lstore_n, r_astore, r_astore_n, r_iinc, r_iadd, r_iaddW, r_isub, r_isubW, r_imul, r_imulW, r_ladd, r_laddW, r_lsub, r_lsubW, r_lmul, r_lmulW, r_iand, r_ior, r_ishl, r_ishr, r_iushr, r_land, r_lor, r_lshl, r_lshr, r_lushr, r_idiv, r_irem, r_ldiv, r_lrem, r_lcmp, r_ineg, r_i2l, r_l2i, r_i2b, r_i2s, r_i2c, r_dup, r_pop, r_dup_x1, r_dup_x2, r_dup2, r_dup2L, r_icmp_eq, r_icmp_ne, r_icmp_lt, r_icmp_ge, r_icmp_gt, r_icmp_le, r_if_eq, r_if_ne, r_if_lt, r_if_ge, r_if_gt, r_if_le, r_acmp_eq, r_acmp_ne, r_ifnull, r_ifnonnull, r_goto, r_nop, r_tsw, r_lsw, r_getfield, r_getfinal, r_putfield, r_getstaticL, r_getstaticR, r_iaload, r_baload, r_saload, r_laload, r_aaload, r_aaloadM, r_iastore, r_bastore, r_zastore, r_sastore, r_lastore, r_aastore, r_alen, r_new, r_newarray, r_anewarray, r_invV, r_invI, r_objI, r_invS, r_acp, r_ireturn, r_zreturn, r_lreturn, r_return, r_areturn, r_athrow, ↓e_pI, ↓e_pL, ↓e_pR, ↓e_lg0, ↓e_lg1, ↓e_tk0, ↓e_tkI0, ↓e_tkI1, ↓e_tkI2, ↓e_tkI3, ↓e_tkI4, ↓e_tkL, ↓e_tkR0_0, ↓e_tkR0_1, ↓e_tkR1_0, ↓e_tkR1_1, ↓e_tkR2_0, ↓e_tkR2_1, ↓e_tkR3_0, ↓e_tkR3_1, ↓e_tkR4_0, ↓e_tkR4_1, ↓e_tkR5_0, ↓e_tkR5_1, ↓e_tkR6_0, ↓e_tkR6_1, ↓e_tkR7_0, ↓e_tkR7_1, ↓e_tkR8_0, ↓e_tkR8_1, ↓e_tkR9_0, ↓e_tkR9_1, ↓e_tkR10_0, ↓e_tkR10_1, ↓e_tkR11_0, ↓e_tkR11_1, ↓e_tkR12_0, ↓e_tkR12_1, ↓e_tkR13_0, ↓e_tkR13_1, ↓e_tkR14_0, ↓e_tkR14_1, ↓e_tkR15_0, ↓e_tkR15_1, ↓e_tkR16_0, ↓e_tkR16_1, ↓e_tkR17_0, ↓e_tkR17_1, ↓e_tkR39_0, ↓e_tkR39_1, ↓e_tkR40_0, ↓e_tkR40_1, ↓e_tkR41_0, ↓e_tkR41_1, ↓e_tkR42_0, ↓e_tkR42_1, ↓e_tkR43_0, ↓e_tkR43_1, ↓e_tkR44_0, ↓e_tkR44_1, ↓e_tkR45_0, ↓e_tkR45_1, ↓e_tkR46_0, ↓e_tkR46_1, ↓e_tkR47_0, ↓e_tkR47_1, ↓e_tkR48_0, ↓e_tkR48_1, ↓e_pv0, ↓e_pv1, ↓e_pv2, ↓e_pv3, ↓e_pv5, ↓e_pvR, ↓e_tsw0, ↓e_tsw1, ↓e_lsw0, ↓e_lsw1, e_kq100, e_kq0, e_kq3, e_kq5, e_kqR0, e_kqR1, e_kqR2, e_kqR3, e_kqR4, e_kqR5, e_kqR6, e_kqR7, e_kqR8, e_kqR9, e_kqR10, e_kqR11, e_kqR12, e_kqR13, e_kqR14, e_kqR15, e_kqR16, e_kqR17, e_kqR39, e_kqR40, e_kqR41, e_kqR42, e_kqR43, e_kqR44, e_kqR45, e_kqR46, e_kqR47, e_kqR48, e_st0I, e_st0R, e_st0L, e_st1N, e_st1I, e_st1L, e_st1R, e_st2, e_wd0, e_wdI, e_wdL, e_wdR, e_c1I, e_c1R, e_gv0, e_gv1, e_gv2, e_gv3, e_gv4, e_gv5, e_gvR0, e_gvR1, e_gvR2, e_gvR3, e_gvR4, e_gvR5, e_gvR6, e_gvR7, e_gvR8, e_gvR9, e_gvR10, e_gvR11, e_gvR12, e_gvR13, e_gvR14, e_gvR15, e_gvR16, e_gvR17, e_gvR39, e_gvR40, e_gvR41, e_gvR42, e_gvR43, e_gvR44, e_gvR45, e_gvR46, e_gvR47, e_gvR48, e_kX0, e_kX1, e_kVv, e_kVx, e_kIv, e_kIx, e_kLv, e_kLx, e_kRv, e_kRx, e_thr, e_lk1, e_ic0, e_ic1, e_jm, st_ap, clr_ap, e_lceq, e_lclt, e_lcgt, nn, ↓reduceIte, Nat.reduceDiv, Nat.reduceMod, Nat.reduceMul, Nat.reduceAdd, Nat.reduceEqDiff, Nat.reduceLeDiff, Int.reduceNatCast, Int.cast_ofNat_Int, Int.reduceSub, Int.reduceMul, Int.reduceNeg, Int.reduceAdd, Int.reduceLE, Int.reduceLT, Int.reduceEq, Int.reduceNe, true_and, and_true, true_or, and_self, ne_eq, not_false_eq_true, Bool.false_eq_true, reduceCtorEq, rd_l1, rd_l2, rd_l3, rd_l4, rd_l5, rd_l6, rd_l7, rd_l8, rd_l9, SB, rd_ge, i2b_2, false_and, and_false, not_true_eq_false, l88_0, l88_10, l88_11, s88_0, s88_10, s88_11, zC_18, zC_20, zC_21, zC_22, zC_23, zC_25, zC_26, zC_253, zC_254, zC_256, zC_257, zC_259, zC_260, zC_262, zC_263, zC_265, zC_266, zC_268, zC_269, zC_271, zC_272, zC_274, zC_275, zC_278, zC_279, zC_280, zC_281, zC_282, zC_284, zC_285, zC_287, zC_288, zC_290, zC_291, zC_293, zC_294, zC_296, zC_297, zC_299, zC_300, zC_302, zC_303, zC_304, zC_305, zC_306, zC_307, zC_308, zC_309, zC_310, zC_311, zC_312, zC_315, zC_316, zC_317, zC_319, zC_320, zC_321, zC_323, zC_324, zC_325, zC_327, zC_328, zC_329, zC_331, zC_332, zC_333, zC_335, zC_336, zC_337, zC_339, zC_340, zC_341, zC_343, zC_344, zC_345, zC_347, zC_348, zC_349, zC_350, zC_351, zC_352, zC_353, zC_354, zC_355, zC_356, zC_357, zC_358, zC_359, zC_361, zC_362, zC_363, zC_364, zC_367, zC_368, zC_369, zC_370, zC_371, zC_372, zC_373, zC_374, zC_375, zC_376, zC_378, zC_380, zC_381, zC_383, zC_384, zC_386, zC_387, zC_389, zC_390, zC_391, zC_392, zC_393, zC_394, zC_395, zC_396, zC_397, zC_398, zC_400, zC_402, zC_403, zC_405, zC_407, zC_409, zC_411, zC_413, zC_415, zC_417, zC_420, zC_421, zC_422, zC_423, zC_424, zC_425, zC_427, zC_429, zC_431, zC_433, zC_436, zC_437, zC_438, zC_439, zC_440, zC_441, zC_442, zC_443, zC_444, zC_445, zC_447, zC_448, zC_450, zC_451, zC_453, zC_454, zC_455, zC_456, zC_457, zC_458, zC_460, zC_461, zC_462, zC_463, zC_464, zC_465, zC_466, zC_467, zC_468, zC_469, zC_471, zC_473, zC_474, zC_476, zC_477, zC_478, zC_479, zC_480, zC_481, zC_482, zC_483, zC_484, zC_485, zC_487, zC_489, zC_490, zC_491, zC_493, zC_495, zC_497, zC_499]
  by_cases q : -32768 ≤ x ∧ x ≤ 32767
  · rw [bz_t q] at hQ
    rw [if_pos (by rw [i2s_eq]; omega)]
    exact hQ
  · rw [bz_f q] at hQ
    rw [if_neg (by rw [i2s_eq]; omega)]
    exact hQ
/-- METRIC (87 / 389) -/
theorem p_metric {p g x y : Int} (R : RST h w) : J2 (fun Q => T gC 87 [vR 1 17, vI p, vI g, vI x, vI y] n h Q) (fun Q => T gM 389 [vR 33 17, vI p, vI g, vI x, vI y] m w Q) (PSV n m h w) := by
  refine J_impL (fun Q hq => T_go (md := true) [some (vR 1 17), some (vI p), some (vI g), some (vI x), some (vI y), none, none] [] 99 (by decide) rfl (Nat.le_of_ble_eq_true rfl) GC FC rfl k87 hq) ?_
  refine J_impR (fun Q hq => T_go (md := true) [some (vR 33 17), some (vI p), some (vI g), some (vI x), some (vI y), none, none, none] [] 99 (by decide) rfl (Nat.le_of_ble_eq_true rfl) GM FM rfl k389 hq) ?_
  simp -implicitDefEqProofs only [r_iconst, r_bipush, r_sipush, r_ldc, r_ldc_w, r_lconst, r_ldc2_w, r_aconst_null, r_iload, r_iload_n, r_lload, r_lload_n, r_aload, r_aload_n, r_istore, r_istore_n, r_lstore, r_lstore_n, r_astore, r_astore_n, r_iinc, r_iadd, r_iaddW, r_isub, r_isubW, r_imul, r_imulW, r_ladd, r_laddW, r_lsub, r_lsubW, r_lmul, r_lmulW, r_iand, r_ior, r_ishl, r_ishr, r_iushr, r_land, r_lor, r_lshl, r_lshr, r_lushr, r_idiv, r_irem, r_ldiv, r_lrem, r_lcmp, r_ineg, r_i2l, r_l2i, r_i2b, r_i2s, r_i2c, r_dup, r_pop, r_dup_x1, r_dup_x2, r_dup2, r_dup2L, r_icmp_eq, r_icmp_ne, r_icmp_lt, r_icmp_ge, r_icmp_gt, r_icmp_le, r_if_eq, r_if_ne, r_if_lt, r_if_ge, r_if_gt, r_if_le, r_acmp_eq, r_acmp_ne, r_ifnull, r_ifnonnull, r_goto, r_nop, r_tsw, r_lsw, r_getfield, r_getfinal, r_putfield, r_getstaticL, r_getstaticR, r_iaload, r_baload, r_saload, r_laload, r_aaload, r_aaloadM, r_iastore, r_bastore, r_zastore, r_sastore, r_lastore, r_aastore, r_alen, r_new, r_newarray, r_anewarray, r_invV, r_invI, r_objI, r_invS, r_acp, r_ireturn, r_zreturn, r_lreturn, r_return, r_areturn, r_athrow, ↓e_pI, ↓e_pL, ↓e_pR, ↓e_lg0, ↓e_lg1, ↓e_tk0, ↓e_tkI0, ↓e_tkI1, ↓e_tkI2, ↓e_tkI3, ↓e_tkI4, ↓e_tkL, ↓e_tkR0_0, ↓e_tkR0_1, ↓e_tkR1_0, ↓e_tkR1_1, ↓e_tkR2_0, ↓e_tkR2_1, ↓e_tkR3_0, ↓e_tkR3_1, ↓e_tkR4_0, ↓e_tkR4_1, ↓e_tkR5_0, ↓e_tkR5_1, ↓e_tkR6_0, ↓e_tkR6_1, ↓e_tkR7_0, ↓e_tkR7_1, ↓e_tkR8_0, ↓e_tkR8_1, ↓e_tkR9_0, ↓e_tkR9_1, ↓e_tkR10_0, ↓e_tkR10_1, ↓e_tkR11_0, ↓e_tkR11_1, ↓e_tkR12_0, ↓e_tkR12_1, ↓e_tkR13_0, ↓e_tkR13_1, ↓e_tkR14_0, ↓e_tkR14_1, ↓e_tkR15_0, ↓e_tkR15_1, ↓e_tkR16_0, ↓e_tkR16_1, ↓e_tkR17_0, ↓e_tkR17_1, ↓e_tkR39_0, ↓e_tkR39_1, ↓e_tkR40_0, ↓e_tkR40_1, ↓e_tkR41_0, ↓e_tkR41_1, ↓e_tkR42_0, ↓e_tkR42_1, ↓e_tkR43_0, ↓e_tkR43_1, ↓e_tkR44_0, ↓e_tkR44_1, ↓e_tkR45_0, ↓e_tkR45_1, ↓e_tkR46_0, ↓e_tkR46_1, ↓e_tkR47_0, ↓e_tkR47_1, ↓e_tkR48_0, ↓e_tkR48_1, ↓e_pv0, ↓e_pv1, ↓e_pv2, ↓e_pv3, ↓e_pv5, ↓e_pvR, ↓e_tsw0, ↓e_tsw1, ↓e_lsw0, ↓e_lsw1, e_kq100, e_kq0, e_kq3, e_kq5, e_kqR0, e_kqR1, e_kqR2, e_kqR3, e_kqR4, e_kqR5, e_kqR6, e_kqR7, e_kqR8, e_kqR9, e_kqR10, e_kqR11, e_kqR12, e_kqR13, e_kqR14, e_kqR15, e_kqR16, e_kqR17, e_kqR39, e_kqR40, e_kqR41, e_kqR42, e_kqR43, e_kqR44, e_kqR45, e_kqR46, e_kqR47, e_kqR48, e_st0I, e_st0R, e_st0L, e_st1N, e_st1I, e_st1L, e_st1R, e_st2, e_wd0, e_wdI, e_wdL, e_wdR, e_c1I, e_c1R, e_gv0, e_gv1, e_gv2, e_gv3, e_gv4, e_gv5, e_gvR0, e_gvR1, e_gvR2, e_gvR3, e_gvR4, e_gvR5, e_gvR6, e_gvR7, e_gvR8, e_gvR9, e_gvR10, e_gvR11, e_gvR12, e_gvR13, e_gvR14, e_gvR15, e_gvR16, e_gvR17, e_gvR39, e_gvR40, e_gvR41, e_gvR42, e_gvR43, e_gvR44, e_gvR45, e_gvR46, e_gvR47, e_gvR48, e_kX0, e_kX1, e_kVv, e_kVx, e_kIv, e_kIx, e_kLv, e_kLx, e_kRv, e_kRx, e_thr, e_lk1, e_ic0, e_ic1, e_jm, st_ap, clr_ap, e_lceq, e_lclt, e_lcgt, nn, ↓reduceIte, Nat.reduceDiv, Nat.reduceMod, Nat.reduceMul, Nat.reduceAdd, Nat.reduceEqDiff, Nat.reduceLeDiff, Int.reduceNatCast, Int.cast_ofNat_Int, Int.reduceSub, Int.reduceMul, Int.reduceNeg, Int.reduceAdd, Int.reduceLE, Int.reduceLT, Int.reduceEq, Int.reduceNe, true_and, and_true, true_or, and_self, ne_eq, not_false_eq_true, Bool.false_eq_true, reduceCtorEq, rd_l1, rd_l2, rd_l3, rd_l4, rd_l5, rd_l6, rd_l7, rd_l8, rd_l9, SB, rd_ge, i2b_2, false_and, and_false, not_true_eq_false, l87_0, l87_16, l87_36, l87_39, l87_65, l87_108, l87_157, l87_159, s87_0, s87_16, s87_36, s87_39, s87_65, s87_108, s87_157, s87_159, l389_0, l389_16, l389_43, l389_46, l389_78, l389_115, l389_134, l389_142, l389_168, l389_170, s389_0, s389_16, s389_43, s389_46, s389_78, s389_115, s389_134, s389_142, s389_168, s389_170, zC_18, zC_20, zC_21, zC_22, zC_23, zC_25, zC_26, zC_253, zC_254, zC_256, zC_257, zC_259, zC_260, zC_262, zC_263, zC_265, zC_266, zC_268, zC_269, zC_271, zC_272, zC_274, zC_275, zC_278, zC_279, zC_280, zC_281, zC_282, zC_284, zC_285, zC_287, zC_288, zC_290, zC_291, zC_293, zC_294, zC_296, zC_297, zC_299, zC_300, zC_302, zC_303, zC_304, zC_305, zC_306, zC_307, zC_308, zC_309, zC_310, zC_311, zC_312, zC_315, zC_316, zC_317, zC_319, zC_320, zC_321, zC_323, zC_324, zC_325, zC_327, zC_328, zC_329, zC_331, zC_332, zC_333, zC_335, zC_336, zC_337, zC_339, zC_340, zC_341, zC_343, zC_344, zC_345, zC_347, zC_348, zC_349, zC_350, zC_351, zC_352, zC_353, zC_354, zC_355, zC_356, zC_357, zC_358, zC_359, zC_361, zC_362, zC_363, zC_364, zC_367, zC_368, zC_369, zC_370, zC_371, zC_372, zC_373, zC_374, zC_375, zC_376, zC_378, zC_380, zC_381, zC_383, zC_384, zC_386, zC_387, zC_389, zC_390, zC_391, zC_392, zC_393, zC_394, zC_395, zC_396, zC_397, zC_398, zC_400, zC_402, zC_403, zC_405, zC_407, zC_409, zC_411, zC_413, zC_415, zC_417, zC_420, zC_421, zC_422, zC_423, zC_424, zC_425, zC_427, zC_429, zC_431, zC_433, zC_436, zC_437, zC_438, zC_439, zC_440, zC_441, zC_442, zC_443, zC_444, zC_445, zC_447, zC_448, zC_450, zC_451, zC_453, zC_454, zC_455, zC_456, zC_457, zC_458, zC_460, zC_461, zC_462, zC_463, zC_464, zC_465, zC_466, zC_467, zC_468, zC_469, zC_471, zC_473, zC_474, zC_476, zC_477, zC_478, zC_479, zC_480, zC_481, zC_482, zC_483, zC_484, zC_485, zC_487, zC_489, zC_490, zC_491, zC_493, zC_495, zC_497, zC_499, zM_18, zM_19, zM_20, zM_21, zM_22, zM_23, zM_24, zM_25, zM_26, zM_27, zM_28, zM_29, zM_30, zM_31, zM_32, zM_33, zM_34, zM_35, zM_36, zM_37, zM_38, zM_39, zM_40, zM_41, zM_42, zM_43, zM_44, zM_45, zM_46, zM_47, zM_48, zM_49, zM_50, zM_51, zM_52, zM_53, zM_54, zM_55, zM_56, zM_57, zM_58, zM_59, zM_60, zM_61, zM_62, zM_63, zM_64, zM_65, zM_66, zM_67, zM_68, zM_69, zM_70, zM_71, zM_72, zM_73, zM_74, zM_75, zM_76, zM_77, zM_78, zM_79, zM_80, zM_81, zM_82, zM_83, zM_84, zM_85, zM_86, zM_87, zM_88, zM_89, zM_90, zM_91, zM_92, zM_93, zM_94, zM_95, zM_96, zM_97, zM_98, zM_99, zM_100, zM_101, zM_102, zM_103, zM_104, zM_105, zM_106, zM_107, zM_108, zM_109, zM_110, zM_111, zM_112, zM_113, zM_114, zM_115, zM_116, zM_117, zM_118, zM_119]
  refine p_ask R (fun h0 w0 gp g0 hp V F W => ?_) (fun h1 w1 y y0 F W => ?_)
  rotate_left
  · simp only [e_kIv]
    refine J_posL y0 (J_posR y0 ?_)
    exact J_end ⟨⟨_, rfl, rfl⟩, rfl, rfl, RST_f R (fun a j _ _ => F a j (by unfold vwC; omega)) (fun a j _ _ => W a j (by unfold vgM; omega)), Fz_mo F (fun _ _ q => Or.inr q), Fz_mo W (fun _ _ q => Or.inr q)⟩
  simp only [e_kIv]
  refine J_L1K (A := fun Q => T gC 150 [vR 21 365, vI g] n h0 Q) (J_lft (p_rg (m := m) V (by omega) g0)) ?_
  rintro o n1 h1 ⟨o', m1, w2, e1, e2, e3, e4, V2, G2, F2, W2⟩
  subst e1 e3
  clear G2 e2 e4
  have F1 := Fz_tr F (gl_vwC F2)
  have V1 : VWG p 1 h1 w0 := VWG_t (by omega) V (fun a i q => F2 a i (by unfold glC; omega)) (fun _ _ _ => rfl)
  clear V2 V F F2 W2
  simp only [e_kIv]
  have R1 : RST h1 w0 := RST_f R (fun a j _ _ => F1 a j (by unfold vwC; omega)) (fun a j _ _ => W a j (by unfold vgM; omega))
  have en : ∀ z, J2 (fun Q => Q (.inl (some (vI z))) n1 h1) (fun Q => Q (.inl (some (vI z))) m w0) (PSV n1 m h w) := fun z => J_end ⟨⟨_, rfl, rfl⟩, rfl, rfl, R1, Fz_mo F1 (fun _ _ q => Or.inr q), Fz_mo W (fun _ _ q => Or.inr q)⟩
  repeat (first | refine J_andL (by first | omega | (constructor <;> omega)) ?_ | refine J_andR (by first | omega | (constructor <;> omega)) ?_ | refine J_posL (by first | omega | (constructor <;> omega)) ?_ | refine J_negL (by first | omega | (constructor <;> omega)) ?_ | refine J_posR (by first | omega | (constructor <;> omega)) ?_ | refine J_negR (by first | omega | (constructor <;> omega)) ?_)
  refine J_LI (c_isIn _ _ _) ?_
  by_cases qx : 0 ≤ x ∧ x ≤ 65535
  rotate_left
  · rw [bz_f qx]
    by_cases q : x < 0
    · repeat (first | refine J_andL (by first | omega | (constructor <;> omega)) ?_ | refine J_andR (by first | omega | (constructor <;> omega)) ?_ | refine J_posL (by first | omega | (constructor <;> omega)) ?_ | refine J_negL (by first | omega | (constructor <;> omega)) ?_ | refine J_posR (by first | omega | (constructor <;> omega)) ?_ | refine J_negR (by first | omega | (constructor <;> omega)) ?_)
      exact en _
    · repeat (first | refine J_andL (by first | omega | (constructor <;> omega)) ?_ | refine J_andR (by first | omega | (constructor <;> omega)) ?_ | refine J_posL (by first | omega | (constructor <;> omega)) ?_ | refine J_negL (by first | omega | (constructor <;> omega)) ?_ | refine J_posR (by first | omega | (constructor <;> omega)) ?_ | refine J_negR (by first | omega | (constructor <;> omega)) ?_)
      exact en _
  rw [bz_t qx]
  repeat (first | refine J_andL (by first | omega | (constructor <;> omega)) ?_ | refine J_andR (by first | omega | (constructor <;> omega)) ?_ | refine J_posL (by first | omega | (constructor <;> omega)) ?_ | refine J_negL (by first | omega | (constructor <;> omega)) ?_ | refine J_posR (by first | omega | (constructor <;> omega)) ?_ | refine J_negR (by first | omega | (constructor <;> omega)) ?_)
  refine J_LI c_isShort ?_
  by_cases qy : -32768 ≤ y ∧ y ≤ 32767
  rotate_left
  · rw [bz_f qy]
    by_cases q : y < -32768
    · repeat (first | refine J_andL (by first | omega | (constructor <;> omega)) ?_ | refine J_andR (by first | omega | (constructor <;> omega)) ?_ | refine J_posL (by first | omega | (constructor <;> omega)) ?_ | refine J_negL (by first | omega | (constructor <;> omega)) ?_ | refine J_posR (by first | omega | (constructor <;> omega)) ?_ | refine J_negR (by first | omega | (constructor <;> omega)) ?_)
      exact en _
    · repeat (first | refine J_andL (by first | omega | (constructor <;> omega)) ?_ | refine J_andR (by first | omega | (constructor <;> omega)) ?_ | refine J_posL (by first | omega | (constructor <;> omega)) ?_ | refine J_negL (by first | omega | (constructor <;> omega)) ?_ | refine J_posR (by first | omega | (constructor <;> omega)) ?_ | refine J_negR (by first | omega | (constructor <;> omega)) ?_)
      exact en _
  rw [bz_t qy]
  obtain ⟨kt, bt, Vt, zt⟩ := V1.2.2.2.2.2.2.1 rfl
  obtain ⟨v0, v1, -⟩ := id V1
  repeat (first | refine J_andL (by first | omega | (constructor <;> omega)) ?_ | refine J_andR (by first | omega | (constructor <;> omega)) ?_ | refine J_posL (by first | omega | (constructor <;> omega)) ?_ | refine J_negL (by first | omega | (constructor <;> omega)) ?_ | refine J_posR (by first | omega | (constructor <;> omega)) ?_ | refine J_negR (by first | omega | (constructor <;> omega)) ?_)
  refine J_RI (m_bof (by omega) Vt.2.2.1) ?_
  rw [v1.1]
  obtain ⟨β, RB⟩ := id R1
  obtain ⟨dk, db, r, r0, er⟩ := VB_d RB (by omega) hp Vt
  obtain ⟨tt1, tt2, tt3, tt4, tt5⟩ := Vt.1
  have r26 := (rs_n R1 gp).1
  have c57 := (rs_n R1 gp).2.2.2 hp
  by_cases qg : g < w0 17 71
  · repeat (first | refine J_andL (by first | omega | (constructor <;> omega)) ?_ | refine J_andR (by first | omega | (constructor <;> omega)) ?_ | refine J_posL (by first | omega | (constructor <;> omega)) ?_ | refine J_negL (by first | omega | (constructor <;> omega)) ?_ | refine J_posR (by first | omega | (constructor <;> omega)) ?_ | refine J_negR (by first | omega | (constructor <;> omega)) ?_)
    refine p_keep RB ?_
    intro h2 w2 C2 F2 G2
    simp only [e_kVv]
    have z6 : h2 365 6 = 28 + 2 * kt := (F2 _ _ (by unfold olC; omega)).trans Vt.2.1
    have s53 : w2 53 bt = h1 (28 + 2 * kt) 1 := (G2 _ _ (by unfold kpM; omega)).trans tt4
    have sh1 : h2 (28 + 2 * kt) 1 = h1 (28 + 2 * kt) 1 := F2 _ _ (by unfold olC; omega)
    rw [z6, s53]
    repeat (first | refine J_andL (by first | omega | (constructor <;> omega)) ?_ | refine J_andR (by first | omega | (constructor <;> omega)) ?_ | refine J_posL (by first | omega | (constructor <;> omega)) ?_ | refine J_negL (by first | omega | (constructor <;> omega)) ?_ | refine J_posR (by first | omega | (constructor <;> omega)) ?_ | refine J_negR (by first | omega | (constructor <;> omega)) ?_)
    obtain ⟨k, h3, k0, nk, evc, C3, l3, sz3, by3, F3⟩ := cg_copy (n := n1) (k1 := kt) C2 (by omega) dk
    refine J_LR evc ?_
    obtain ⟨b, w3, b0, nb, evm, l4, sz4, by4, G3, C4⟩ := mg_copy (m := m) (b1 := bt) (x := h1 (28 + 2 * kt) 1) C3 (by omega) tt3 tt2 ⟨kt, dk, db⟩ (by omega) (fun i i0 i1 => by rw [G2 _ _ (by unfold kpM; omega), ← (tt5 i i0 i1).1]; exact (tt5 i i0 i1).2)
    refine J_RI evm ?_
    have ne : kt ≠ k := fun e => nk (e ▸ dk)
    have y1 : h3 365 1 = w0 17 71 := by rw [F3 _ _ (by omega), F2 _ _ (by unfold olC; omega)]; exact v1.1
    have y2 : w3 17 71 = w0 17 71 := by rw [G3 _ _ (by omega), G2 _ _ (by unfold kpM; omega)]
    have B3 : ∀ i, 0 ≤ i → i < h1 (28 + 2 * kt) 1 → h3 (29 + 2 * k) i = w3 52 (12000 * b + i) ∧ -128 ≤ h3 (29 + 2 * k) i ∧ h3 (29 + 2 * k) i ≤ 127 := fun i i0 i1 => by
      rw [by3 i i0 (by omega), by4 i i0 i1, G2 _ _ (by unfold kpM; omega), F2 _ _ (by unfold olC; omega)]
      exact tt5 i i0 i1
    rw [y1, y2]
    try simp only [e_kRv]
    repeat (first | refine J_andL (by first | omega | (constructor <;> omega)) ?_ | refine J_andR (by first | omega | (constructor <;> omega)) ?_ | refine J_posL (by first | omega | (constructor <;> omega)) ?_ | refine J_negL (by first | omega | (constructor <;> omega)) ?_ | refine J_posR (by first | omega | (constructor <;> omega)) ?_ | refine J_negR (by first | omega | (constructor <;> omega)) ?_)
    refine J_LV (c_set2 k0 (by omega)) (J_RV (m_set2 b0 (by omega)) ?_)
    rw [(s2h_f (k := k) (i := 4 * g) (v := x) (h := h3) 365 1 (by show ¬ (_ = _); omega)).trans y1, (s2w_f (b := b) (i := 4 * g) (v := x) (w := w3) (by omega) 17 71 (by omega)).trans y2]
    refine J_LI (c_153 (by omega) (by omega)) ?_
    rw [show hmB (w0 17 71) g = 4 * g + 2 from if_pos qg]
    repeat (first | refine J_andL (by first | omega | (constructor <;> omega)) ?_ | refine J_andR (by first | omega | (constructor <;> omega)) ?_ | refine J_posL (by first | omega | (constructor <;> omega)) ?_ | refine J_negL (by first | omega | (constructor <;> omega)) ?_ | refine J_posR (by first | omega | (constructor <;> omega)) ?_ | refine J_negR (by first | omega | (constructor <;> omega)) ?_)
    refine J_LV (c_set2 k0 (by omega)) (J_RV (m_set2 b0 (by omega)) ?_)
    have H5 : Fz (fun a _ => a = 29 + 2 * k) h3 (s2h k (4 * g + 2) y (s2h k (4 * g) x h3)) := Fz_tr s2h_f s2h_f
    have W5 : Fz (fun a j => a = 52 ∧ 12000 * b ≤ j ∧ j < 12000 * b + 12000) w3 (s2w b (4 * g + 2) y (s2w b (4 * g) x w3)) := Fz_tr (s2w_f (by omega)) (s2w_f (by omega))
    have B5 := s2_by (i := 4 * g + 2) (v := y) (s2_by (i := 4 * g) (v := x) B3)
    revert H5 W5 B5
    generalize s2h k (4 * g + 2) y (s2h k (4 * g) x h3) = h5
    generalize s2w b (4 * g + 2) y (s2w b (4 * g) x w3) = w5
    intro H5 W5 B5
    have h5z : h5 (28 + 2 * k) 1 = h1 (28 + 2 * kt) 1 := by rw [H5 _ _ (by show ¬ (_ = _); omega)]; omega
    have h5l : h5 (28 + 2 * k) 3 = 1 := (H5 _ _ (by show ¬ (_ = _); omega)).trans l3
    have w5l : w5 54 b = 1 := (W5 _ _ (by omega)).trans l4
    have C5 := cg_h (c := 1) C4 k0 nk (Fz_mo H5 (fun a j g => Or.inr g)) (Or.inr h5l) (by rw [l3, h5l]; have := C4.2.2.2.2.1.2.2.2.1; omega)
    have C6 := cg_w (c := 1) C5 b0 nb (Fz_mo W5 (fun a j g => Or.inr g)) (Or.inr w5l) (by rw [l4, w5l]; have := C5.2.2.2.2.1.2.2.2.2; omega)
    have C7 := cg_tie C6 k0 nk h5l b0 nb w5l (by omega) (by rw [W5 _ _ (by omega), sz4, h5z]) (by rw [h5z]; exact B5)
    have fw : ∀ a j, a = 55 ∨ a = 57 ∨ a = 58 → (a = 58 → j < 64) → (a ≠ 58 → j < 4) → w5 a j = w0 a j := fun a j q x y => by rw [W5 _ _ (by omega), G3 _ _ (by omega), G2 _ _ (by unfold kpM; omega)]
    have fh : h5 26 p = 252 + 6 * p := by rw [H5 _ _ (by show ¬ (_ = _); omega), F3 _ _ (by omega), F2 _ _ (by unfold olC; omega)]; exact r26
    have w55 : w5 55 p = 1 := by rw [fw _ _ (by omega) (by omega) (by omega)]; exact hp
    obtain ⟨ev1, ev2, C8⟩ := p_putE (n := n1) (m := m) C7 (by omega) w55 (k := k) (Or.inr rfl) (r := r) (by rw [fw _ _ (by omega) (by omega) (by omega)]; exact r0) ((fw _ _ (by omega) (by omega) (by omega)).trans er) (fun q i q0 hq i0 z => cg_nb C6 nb q i q0 hq i0 (z.trans ufn_e))
    rw [ufn_e] at ev2 C8
    rw [fh]
    repeat (first | refine J_andL (by first | omega | (constructor <;> omega)) ?_ | refine J_andR (by first | omega | (constructor <;> omega)) ?_ | refine J_posL (by first | omega | (constructor <;> omega)) ?_ | refine J_negL (by first | omega | (constructor <;> omega)) ?_ | refine J_posR (by first | omega | (constructor <;> omega)) ?_ | refine J_negR (by first | omega | (constructor <;> omega)) ?_)
    refine J_LI ev1 (J_RV ev2 ?_)
    have FA : Fz svC h (st h5 (252 + 6 * p + 2) r (28 + 2 * k)) := Fz_tr (Fz_mo F1 (fun _ _ q => Or.inr q)) (Fz_st (Fz_tr (Fz_mo F2 (fun a j g => Or.inl (by unfold olC at g; unfold stC; omega))) (Fz_tr (Fz_mo F3 (fun a j g => Or.inl (by unfold stC; omega))) (Fz_mo H5 (fun a j g => Or.inl (by have g : a = 29 + 2 * k := g; unfold stC; omega))))) (Or.inl (by unfold stC; omega)))
    have GA : Fz svM w (st w5 59 (16 * p + r) b) := Fz_tr (Fz_mo W (fun _ _ q => Or.inr q)) (Fz_st (Fz_tr (Fz_mo G2 (fun a j g => Or.inl (by unfold kpM at g; unfold stM; omega))) (Fz_tr (Fz_mo G3 (fun a j g => Or.inl (by unfold stM; omega))) (Fz_mo W5 (fun a j g => Or.inl (by unfold stM; omega))))) (Or.inl (by unfold stM; omega)))
    refine p_stands C8 ?_ ?_
    · intro h6 R6 F6
      simp only [e_kIv]
      repeat (first | refine J_andL (by first | omega | (constructor <;> omega)) ?_ | refine J_andR (by first | omega | (constructor <;> omega)) ?_ | refine J_posL (by first | omega | (constructor <;> omega)) ?_ | refine J_negL (by first | omega | (constructor <;> omega)) ?_ | refine J_posR (by first | omega | (constructor <;> omega)) ?_ | refine J_negR (by first | omega | (constructor <;> omega)) ?_)
      exact J_end ⟨⟨_, rfl, rfl⟩, rfl, rfl, ⟨_, R6⟩, Fz_tr FA (Fz_mo F6 (fun a j g => Or.inl (by unfold ctC at g; unfold stC; omega))), GA⟩
    · intro h6 w6 R6 F6 G6 _
      simp only [e_kIv]
      repeat (first | refine J_andL (by first | omega | (constructor <;> omega)) ?_ | refine J_andR (by first | omega | (constructor <;> omega)) ?_ | refine J_posL (by first | omega | (constructor <;> omega)) ?_ | refine J_negL (by first | omega | (constructor <;> omega)) ?_ | refine J_posR (by first | omega | (constructor <;> omega)) ?_ | refine J_negR (by first | omega | (constructor <;> omega)) ?_)
      exact J_end ⟨⟨_, rfl, rfl⟩, rfl, rfl, ⟨_, R6⟩, Fz_tr FA (Fz_mo F6 (fun a j g => Or.inl (by unfold nsC ctC fnC at g; unfold stC; omega))), Fz_tr GA (Fz_mo G6 (fun a j g => Or.inl (by unfold unM at g; unfold stM; omega)))⟩
  · repeat (first | refine J_andL (by first | omega | (constructor <;> omega)) ?_ | refine J_andR (by first | omega | (constructor <;> omega)) ?_ | refine J_posL (by first | omega | (constructor <;> omega)) ?_ | refine J_negL (by first | omega | (constructor <;> omega)) ?_ | refine J_posR (by first | omega | (constructor <;> omega)) ?_ | refine J_negR (by first | omega | (constructor <;> omega)) ?_)
    obtain ⟨⟨ha, hb⟩, -⟩ := hm_ev (n := n1) (m := m) V1 Vt zt (g := g) (by omega)
    refine J_LI ha (J_RI hb ?_)
    generalize u2f (h1 (29 + 2 * kt)) (hmA (w0 17 71) g) = ad
    by_cases qa : x = ad
    rotate_left
    · repeat (first | refine J_andL (by first | omega | (constructor <;> omega)) ?_ | refine J_andR (by first | omega | (constructor <;> omega)) ?_ | refine J_posL (by first | omega | (constructor <;> omega)) ?_ | refine J_negL (by first | omega | (constructor <;> omega)) ?_ | refine J_posR (by first | omega | (constructor <;> omega)) ?_ | refine J_negR (by first | omega | (constructor <;> omega)) ?_)
      exact en _
    repeat (first | refine J_andL (by first | omega | (constructor <;> omega)) ?_ | refine J_andR (by first | omega | (constructor <;> omega)) ?_ | refine J_posL (by first | omega | (constructor <;> omega)) ?_ | refine J_negL (by first | omega | (constructor <;> omega)) ?_ | refine J_posR (by first | omega | (constructor <;> omega)) ?_ | refine J_negR (by first | omega | (constructor <;> omega)) ?_)
    refine p_keep RB ?_
    intro h2 w2 C2 F2 G2
    simp only [e_kVv]
    have z6 : h2 365 6 = 28 + 2 * kt := (F2 _ _ (by unfold olC; omega)).trans Vt.2.1
    have s53 : w2 53 bt = h1 (28 + 2 * kt) 1 := (G2 _ _ (by unfold kpM; omega)).trans tt4
    have sh1 : h2 (28 + 2 * kt) 1 = h1 (28 + 2 * kt) 1 := F2 _ _ (by unfold olC; omega)
    rw [z6, s53]
    repeat (first | refine J_andL (by first | omega | (constructor <;> omega)) ?_ | refine J_andR (by first | omega | (constructor <;> omega)) ?_ | refine J_posL (by first | omega | (constructor <;> omega)) ?_ | refine J_negL (by first | omega | (constructor <;> omega)) ?_ | refine J_posR (by first | omega | (constructor <;> omega)) ?_ | refine J_negR (by first | omega | (constructor <;> omega)) ?_)
    obtain ⟨k, h3, k0, nk, evc, C3, l3, sz3, by3, F3⟩ := cg_copy (n := n1) (k1 := kt) C2 (by omega) dk
    refine J_LR evc ?_
    obtain ⟨b, w3, b0, nb, evm, l4, sz4, by4, G3, C4⟩ := mg_copy (m := m) (b1 := bt) (x := h1 (28 + 2 * kt) 1) C3 (by omega) tt3 tt2 ⟨kt, dk, db⟩ (by omega) (fun i i0 i1 => by rw [G2 _ _ (by unfold kpM; omega), ← (tt5 i i0 i1).1]; exact (tt5 i i0 i1).2)
    refine J_RI evm ?_
    have ne : kt ≠ k := fun e => nk (e ▸ dk)
    have y1 : h3 365 1 = w0 17 71 := by rw [F3 _ _ (by omega), F2 _ _ (by unfold olC; omega)]; exact v1.1
    have y2 : w3 17 71 = w0 17 71 := by rw [G3 _ _ (by omega), G2 _ _ (by unfold kpM; omega)]
    have B3 : ∀ i, 0 ≤ i → i < h1 (28 + 2 * kt) 1 → h3 (29 + 2 * k) i = w3 52 (12000 * b + i) ∧ -128 ≤ h3 (29 + 2 * k) i ∧ h3 (29 + 2 * k) i ≤ 127 := fun i i0 i1 => by
      rw [by3 i i0 (by omega), by4 i i0 i1, G2 _ _ (by unfold kpM; omega), F2 _ _ (by unfold olC; omega)]
      exact tt5 i i0 i1
    rw [y1, y2]
    try simp only [e_kRv]
    repeat (first | refine J_andL (by first | omega | (constructor <;> omega)) ?_ | refine J_andR (by first | omega | (constructor <;> omega)) ?_ | refine J_posL (by first | omega | (constructor <;> omega)) ?_ | refine J_negL (by first | omega | (constructor <;> omega)) ?_ | refine J_posR (by first | omega | (constructor <;> omega)) ?_ | refine J_negR (by first | omega | (constructor <;> omega)) ?_)
    refine J_LI (c_153 (by omega) (by omega)) ?_
    rw [show hmB (w0 17 71) g = 2 * (w0 17 71 + g) from if_neg qg]
    repeat (first | refine J_andL (by first | omega | (constructor <;> omega)) ?_ | refine J_andR (by first | omega | (constructor <;> omega)) ?_ | refine J_posL (by first | omega | (constructor <;> omega)) ?_ | refine J_negL (by first | omega | (constructor <;> omega)) ?_ | refine J_posR (by first | omega | (constructor <;> omega)) ?_ | refine J_negR (by first | omega | (constructor <;> omega)) ?_)
    refine J_LV (c_set2 k0 (by omega)) (J_RV (m_set2 b0 (by omega)) ?_)
    have H5 : Fz (fun a _ => a = 29 + 2 * k) h3 (s2h k (2 * (w0 17 71 + g)) y h3) := s2h_f
    have W5 : Fz (fun a j => a = 52 ∧ 12000 * b ≤ j ∧ j < 12000 * b + 12000) w3 (s2w b (2 * (w0 17 71 + g)) y w3) := s2w_f (by omega)
    have B5 := s2_by (i := 2 * (w0 17 71 + g)) (v := y) B3
    revert H5 W5 B5
    generalize s2h k (2 * (w0 17 71 + g)) y h3 = h5
    generalize s2w b (2 * (w0 17 71 + g)) y w3 = w5
    intro H5 W5 B5
    have h5z : h5 (28 + 2 * k) 1 = h1 (28 + 2 * kt) 1 := by rw [H5 _ _ (by show ¬ (_ = _); omega)]; omega
    have h5l : h5 (28 + 2 * k) 3 = 1 := (H5 _ _ (by show ¬ (_ = _); omega)).trans l3
    have w5l : w5 54 b = 1 := (W5 _ _ (by omega)).trans l4
    have C5 := cg_h (c := 1) C4 k0 nk (Fz_mo H5 (fun a j g => Or.inr g)) (Or.inr h5l) (by rw [l3, h5l]; have := C4.2.2.2.2.1.2.2.2.1; omega)
    have C6 := cg_w (c := 1) C5 b0 nb (Fz_mo W5 (fun a j g => Or.inr g)) (Or.inr w5l) (by rw [l4, w5l]; have := C5.2.2.2.2.1.2.2.2.2; omega)
    have C7 := cg_tie C6 k0 nk h5l b0 nb w5l (by omega) (by rw [W5 _ _ (by omega), sz4, h5z]) (by rw [h5z]; exact B5)
    have fw : ∀ a j, a = 55 ∨ a = 57 ∨ a = 58 → (a = 58 → j < 64) → (a ≠ 58 → j < 4) → w5 a j = w0 a j := fun a j q x y => by rw [W5 _ _ (by omega), G3 _ _ (by omega), G2 _ _ (by unfold kpM; omega)]
    have fh : h5 26 p = 252 + 6 * p := by rw [H5 _ _ (by show ¬ (_ = _); omega), F3 _ _ (by omega), F2 _ _ (by unfold olC; omega)]; exact r26
    have w55 : w5 55 p = 1 := by rw [fw _ _ (by omega) (by omega) (by omega)]; exact hp
    obtain ⟨ev1, ev2, C8⟩ := p_putE (n := n1) (m := m) C7 (by omega) w55 (k := k) (Or.inr rfl) (r := r) (by rw [fw _ _ (by omega) (by omega) (by omega)]; exact r0) ((fw _ _ (by omega) (by omega) (by omega)).trans er) (fun q i q0 hq i0 z => cg_nb C6 nb q i q0 hq i0 (z.trans ufn_e))
    rw [ufn_e] at ev2 C8
    rw [fh]
    repeat (first | refine J_andL (by first | omega | (constructor <;> omega)) ?_ | refine J_andR (by first | omega | (constructor <;> omega)) ?_ | refine J_posL (by first | omega | (constructor <;> omega)) ?_ | refine J_negL (by first | omega | (constructor <;> omega)) ?_ | refine J_posR (by first | omega | (constructor <;> omega)) ?_ | refine J_negR (by first | omega | (constructor <;> omega)) ?_)
    refine J_LI ev1 (J_RV ev2 ?_)
    have FA : Fz svC h (st h5 (252 + 6 * p + 2) r (28 + 2 * k)) := Fz_tr (Fz_mo F1 (fun _ _ q => Or.inr q)) (Fz_st (Fz_tr (Fz_mo F2 (fun a j g => Or.inl (by unfold olC at g; unfold stC; omega))) (Fz_tr (Fz_mo F3 (fun a j g => Or.inl (by unfold stC; omega))) (Fz_mo H5 (fun a j g => Or.inl (by have g : a = 29 + 2 * k := g; unfold stC; omega))))) (Or.inl (by unfold stC; omega)))
    have GA : Fz svM w (st w5 59 (16 * p + r) b) := Fz_tr (Fz_mo W (fun _ _ q => Or.inr q)) (Fz_st (Fz_tr (Fz_mo G2 (fun a j g => Or.inl (by unfold kpM at g; unfold stM; omega))) (Fz_tr (Fz_mo G3 (fun a j g => Or.inl (by unfold stM; omega))) (Fz_mo W5 (fun a j g => Or.inl (by unfold stM; omega))))) (Or.inl (by unfold stM; omega)))
    refine p_stands C8 ?_ ?_
    · intro h6 R6 F6
      simp only [e_kIv]
      repeat (first | refine J_andL (by first | omega | (constructor <;> omega)) ?_ | refine J_andR (by first | omega | (constructor <;> omega)) ?_ | refine J_posL (by first | omega | (constructor <;> omega)) ?_ | refine J_negL (by first | omega | (constructor <;> omega)) ?_ | refine J_posR (by first | omega | (constructor <;> omega)) ?_ | refine J_negR (by first | omega | (constructor <;> omega)) ?_)
      exact J_end ⟨⟨_, rfl, rfl⟩, rfl, rfl, ⟨_, R6⟩, Fz_tr FA (Fz_mo F6 (fun a j g => Or.inl (by unfold ctC at g; unfold stC; omega))), GA⟩
    · intro h6 w6 R6 F6 G6 _
      simp only [e_kIv]
      repeat (first | refine J_andL (by first | omega | (constructor <;> omega)) ?_ | refine J_andR (by first | omega | (constructor <;> omega)) ?_ | refine J_posL (by first | omega | (constructor <;> omega)) ?_ | refine J_negL (by first | omega | (constructor <;> omega)) ?_ | refine J_posR (by first | omega | (constructor <;> omega)) ?_ | refine J_negR (by first | omega | (constructor <;> omega)) ?_)
      exact J_end ⟨⟨_, rfl, rfl⟩, rfl, rfl, ⟨_, R6⟩, Fz_tr FA (Fz_mo F6 (fun a j g => Or.inl (by unfold nsC ctC fnC at g; unfold stC; omega))), Fz_tr GA (Fz_mo G6 (fun a j g => Or.inl (by unfold unM at g; unfold stM; omega)))⟩
end
