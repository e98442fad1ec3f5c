set_option maxRecDepth 100000
/-- Bytes 19 (room 16000) hold the list, or the list was too much for them -/
def BO (h : Mem) (L : List Int) : Prop := ((L.length : Int) ≤ 16000 ∧ h 19 2 = 0 ∧ BL h 19 L) ∨ (16000 < (L.length : Int) ∧ h 19 2 = 1 ∧ 0 ≤ h 19 1 ∧ h 19 1 ≤ 16000)
def boF (a _j : Int) : Prop := a = 19 ∨ a = 20
section
variable {A B : Qt → Prop} {Φ : Out → Int → Mem → Out → Int → Mem → Prop} {KL KM : Qt → Qt} {n m : Int} {h w : Mem}
theorem zc19 : (gC.1 (19 + 1)).2 = 16000 := by decide +kernel
theorem c_clearO : Ev gC 112 [vR 3 19] n h (.inl none) n (st (st h 19 1 0) 19 2 0) ∧ BO (st (st h 19 1 0) 19 2 0) [] ∧ Fz boF h (st (st h 19 1 0) 19 2 0) :=
  ⟨c_clear, Or.inl ⟨by simp, st_eq _ _ _ _, by rw [st_nj (by omega), st_eq]; rfl, fun i hi => by simp at hi⟩, Fz_st (Fz_st Fz_0 (Or.inl rfl)) (Or.inl rfl)⟩
theorem c_addO {v : Int} {L : List Int} (B : BO h L) : ∃ h1 : Mem, Ev gC 113 [vR 3 19, vI v] n h (.inl none) n h1 ∧ BO h1 (L ++ [i2b v]) ∧ Fz boF h h1 := by
  have zc := zc19
  have hl : ((L ++ [i2b v]).length : Int) = L.length + 1 := by rw [List.length_append]; show ((L.length + 1 : Nat) : Int) = _; omega
  rcases B with ⟨b1, b2, b3⟩ | ⟨b1, b2, b3, b4⟩
  · by_cases q : (L.length : Int) < 16000
    · obtain ⟨h1, ev, B1, F1⟩ := c_addB (n := n) (o := 19) (v := v) (by omega) b3 (by omega)
      refine ⟨h1, ev, Or.inl ⟨by omega, by rw [F1 _ _ (by unfold bdC; omega)]; exact b2, B1⟩, Fz_mo F1 (fun a j g => by unfold bdC at g; unfold boF; omega)⟩
    · have e := b3.1
      refine ⟨_, c_addF (n := n) (o := 19) (v := v) (by omega) (by omega), Or.inr ⟨by omega, st_eq _ _ _ _, by rw [st_nj (by omega)]; omega, by rw [st_nj (by omega)]; omega⟩, Fz_st Fz_0 (Or.inl rfl)⟩
  · by_cases q : h 19 1 = 16000
    · refine ⟨_, c_addF (n := n) (o := 19) (v := v) (by omega) (by omega), Or.inr ⟨by omega, st_eq _ _ _ _, by rw [st_nj (by omega)]; omega, by rw [st_nj (by omega)]; omega⟩, Fz_st Fz_0 (Or.inl rfl)⟩
    · refine ⟨_, c_add (n := n) (o := 19) (v := v) (by omega) b3 (by omega), Or.inr ⟨by omega, ?_, ?_, ?_⟩, ?_⟩
      · unfold psh; rw [st_na (by omega), st_nj (by omega)]; exact b2
      · unfold psh; rw [st_na (by omega), st_eq]; omega
      · unfold psh; rw [st_na (by omega), st_eq]; omega
      · unfold psh; exact Fz_st (Fz_st Fz_0 (Or.inl rfl)) (Or.inr rfl)
theorem c_add2O {v : Int} {L : List Int} (B : BO h L) : ∃ h1 : Mem, Ev gC 121 [vR 3 19, vI v] n h (.inl none) n h1 ∧ BO h1 (L ++ [i2b (isr v 8), i2b v]) ∧ Fz boF h h1 := by
  obtain ⟨h1, ev1, B1, F1⟩ := c_addO (n := n) (v := isr v 8) B
  obtain ⟨h2, ev2, B2, F2⟩ := c_addO (n := n) (v := v) B1
  refine ⟨h2, ?_, by rw [List.append_assoc] at B2; exact B2, Fz_tr F1 F2⟩
  intro Q hQ
  refine T_go (md := true) [some (vR 3 19), some (vI v)] [] 99 (by decide) rfl (Nat.le_of_ble_eq_true rfl) GC FC rfl k121 ?_
  simp -implicitDefEqProofs only [r_iconst, r_bipush, r_sipush, r_ldc, r_ldc_w, r_lconst, r_ldc2_w, r_aconst_null, r_iload, r_iload_n, r_lload, r_lload_n, r_aload, r_aload_n, r_istore, r_istore_n, r_lstore, r_lstore_n, r_astore, r_astore_n, r_iinc, r_iadd, r_iaddW, r_isub, r_isubW, r_imul, r_imulW, r_ladd, r_laddW, r_lsub, r_lsubW, r_lmul, r_lmulW, r_iand, r_ior, r_ishl, r_ishr, r_iushr, r_land, r_lor, r_lshl, r_lshr, r_lushr, r_idiv, r_irem, r_ldiv, r_lrem, r_lcmp, r_ineg, r_i2l, r_l2i, r_i2b, r_i2s, r_i2c, r_dup, r_pop, r_dup_x1, r_dup_x2, r_dup2, r_dup2L, r_icmp_eq, r_icmp_ne, r_icmp_lt, r_icmp_ge, r_icmp_gt, r_icmp_le, r_if_eq, r_if_ne, r_if_lt, r_if_ge, r_if_gt, r_if_le, r_acmp_eq, r_acmp_ne, r_ifnull, r_ifnonnull, r_goto, r_nop, r_tsw, r_lsw, r_getfield, r_getfinal, r_putfield, r_getstaticL, r_getstaticR, r_iaload, r_baload, r_saload, r_laload, r_aaload, r_aaloadM, r_iastore, r_bastore, r_zastore, r_sastore, r_lastore, r_aastore, r_alen, r_new, r_newarray, r_anewarray, r_invV, r_invI, r_objI, r_invS, r_acp, r_ireturn, r_zreturn, r_lreturn, r_return, r_areturn, r_athrow, ↓e_pI, ↓e_pL, ↓e_pR, ↓e_lg0, ↓e_lg1, ↓e_tk0, ↓e_tkI0, ↓e_tkI1, ↓e_tkI2, ↓e_tkI3, ↓e_tkI4, ↓e_tkL, ↓e_tkR0_0, ↓e_tkR0_1, ↓e_tkR1_0, ↓e_tkR1_1, ↓e_tkR2_0, ↓e_tkR2_1, ↓e_tkR3_0, ↓e_tkR3_1, ↓e_tkR4_0, ↓e_tkR4_1, ↓e_tkR5_0, ↓e_tkR5_1, ↓e_tkR6_0, ↓e_tkR6_1, ↓e_tkR7_0, ↓e_tkR7_1, ↓e_tkR8_0, ↓e_tkR8_1, ↓e_tkR9_0, ↓e_tkR9_1, ↓e_tkR10_0, ↓e_tkR10_1, ↓e_tkR11_0, ↓e_tkR11_1, ↓e_tkR12_0, ↓e_tkR12_1, ↓e_tkR13_0, ↓e_tkR13_1, ↓e_tkR14_0, ↓e_tkR14_1, ↓e_tkR15_0, ↓e_tkR15_1, ↓e_tkR16_0, ↓e_tkR16_1, ↓e_tkR17_0, ↓e_tkR17_1, ↓e_tkR39_0, ↓e_tkR39_1, ↓e_tkR40_0, ↓e_tkR40_1, ↓e_tkR41_0, ↓e_tkR41_1, ↓e_tkR42_0, ↓e_tkR42_1, ↓e_tkR43_0, ↓e_tkR43_1, ↓e_tkR44_0, ↓e_tkR44_1, ↓e_tkR45_0, ↓e_tkR45_1, ↓e_tkR46_0, ↓e_tkR46_1, ↓e_tkR47_0, ↓e_tkR47_1, ↓e_tkR48_0, ↓e_tkR48_1, ↓e_pv0, ↓e_pv1, ↓e_pv2, ↓e_pv3, ↓e_pv5, ↓e_pvR, ↓e_tsw0, ↓e_tsw1, ↓e_lsw0, ↓e_lsw1, e_kq100, e_kq0, e_kq3, e_kq5, e_kqR0, e_kqR1, e_kqR2, e_kqR3, e_kqR4, e_kqR5, e_kqR6, e_kqR7, e_kqR8, e_kqR9, e_kqR10, e_kqR11, e_kqR12, e_kqR13, e_kqR14, e_kqR15, e_kqR16, e_kqR17, e_kqR39, e_kqR40, e_kqR41, e_kqR42, e_kqR43, e_kqR44, e_kqR45, e_kqR46, e_kqR47, e_kqR48, e_st0I, e_st0R, e_st0L, e_st1N, e_st1I, e_st1L, e_st1R, e_st2, e_wd0, e_wdI, e_wdL, e_wdR, e_c1I, e_c1R, e_gv0, e_gv1, e_gv2, e_gv3, e_gv4, e_gv5, e_gvR0, e_gvR1, e_gvR2, e_gvR3, e_gvR4, e_gvR5, e_gvR6, e_gvR7, e_gvR8, e_gvR9, e_gvR10, e_gvR11, e_gvR12, e_gvR13, e_gvR14, e_gvR15, e_gvR16, e_gvR17, e_gvR39, e_gvR40, e_gvR41, e_gvR42, e_gvR43, e_gvR44, e_gvR45, e_gvR46, e_gvR47, e_gvR48, e_kX0, e_kX1, e_kVv, e_kVx, e_kIv, e_kIx, e_kLv, e_kLx, e_kRv, e_kRx, e_thr, e_lk1, e_ic0, e_ic1, e_jm, st_ap, clr_ap, e_lceq, e_lclt, e_lcgt, nn, ↓reduceIte, Nat.reduceDiv, Nat.reduceMod, Nat.reduceMul, Nat.reduceAdd, Nat.reduceEqDiff, Nat.reduceLeDiff, Int.reduceNatCast, Int.cast_ofNat_Int, Int.reduceSub, Int.reduceMul, Int.reduceNeg, Int.reduceAdd, Int.reduceLE, Int.reduceLT, Int.reduceEq, Int.reduceNe, true_and, and_true, true_or, and_self, ne_eq, not_false_eq_true, Bool.false_eq_true, reduceCtorEq, rd_l1, rd_l2, rd_l3, rd_l4, rd_l5, rd_l6, rd_l7, rd_l8, rd_l9, SB, rd_ge, i2b_2, false_and, and_false, not_true_eq_false, l121_0, s121_0, zC_18, zC_20, zC_21, zC_22, zC_23, zC_25, zC_26, zC_253, zC_254, zC_256, zC_257, zC_259, zC_260, zC_262, zC_263, zC_265, zC_266, zC_268, zC_269, zC_271, zC_272, zC_274, zC_275, zC_278, zC_279, zC_280, zC_281, zC_282, zC_284, zC_285, zC_287, zC_288, zC_290, zC_291, zC_293, zC_294, zC_296, zC_297, zC_299, zC_300, zC_302, zC_303, zC_304, zC_305, zC_306, zC_307, zC_308, zC_309, zC_310, zC_311, zC_312, zC_315, zC_316, zC_317, zC_319, zC_320, zC_321, zC_323, zC_324, zC_325, zC_327, zC_328, zC_329, zC_331, zC_332, zC_333, zC_335, zC_336, zC_337, zC_339, zC_340, zC_341, zC_343, zC_344, zC_345, zC_347, zC_348, zC_349, zC_350, zC_351, zC_352, zC_353, zC_354, zC_355, zC_356, zC_357, zC_358, zC_359, zC_361, zC_362, zC_363, zC_364, zC_367, zC_368, zC_369, zC_370, zC_371, zC_372, zC_373, zC_374, zC_375, zC_376, zC_378, zC_380, zC_381, zC_383, zC_384, zC_386, zC_387, zC_389, zC_390, zC_391, zC_392, zC_393, zC_394, zC_395, zC_396, zC_397, zC_398, zC_400, zC_402, zC_403, zC_405, zC_407, zC_409, zC_411, zC_413, zC_415, zC_417, zC_420, zC_421, zC_422, zC_423, zC_424, zC_425, zC_427, zC_429, zC_431, zC_433, zC_436, zC_437, zC_438, zC_439, zC_440, zC_441, zC_442, zC_443, zC_444, zC_445, zC_447, zC_448, zC_450, zC_451, zC_453, zC_454, zC_455, zC_456, zC_457, zC_458, zC_460, zC_461, zC_462, zC_463, zC_464, zC_465, zC_466, zC_467, zC_468, zC_469, zC_471, zC_473, zC_474, zC_476, zC_477, zC_478, zC_479, zC_480, zC_481, zC_482, zC_483, zC_484, zC_485, zC_487, zC_489, zC_490, zC_491, zC_493, zC_495, zC_497, zC_499]
  exact E_V ev1 (E_V ev2 hQ)
theorem c_add4O {v : Int} {L : List Int} (B : BO h L) : ∃ h1 : Mem, Ev gC 120 [vR 3 19, vI v] n h (.inl none) n h1 ∧ BO h1 (L ++ [i2b (isr (isu v 16) 8), i2b (isu v 16), i2b (isr v 8), i2b v]) ∧ Fz boF h h1 := by
  obtain ⟨h1, ev1, B1, F1⟩ := c_add2O (n := n) (v := isu v 16) B
  obtain ⟨h2, ev2, B2, F2⟩ := c_add2O (n := n) (v := v) B1
  refine ⟨h2, ?_, by rw [List.append_assoc] at B2; exact B2, Fz_tr F1 F2⟩
  intro Q hQ
  refine T_go (md := true) [some (vR 3 19), some (vI v)] [] 99 (by decide) rfl (Nat.le_of_ble_eq_true rfl) GC FC rfl k120 ?_
  simp -implicitDefEqProofs only [r_iconst, r_bipush, r_sipush, r_ldc, r_ldc_w, r_lconst, r_ldc2_w, r_aconst_null, r_iload, r_iload_n, r_lload, r_lload_n, r_aload, r_aload_n, r_istore, r_istore_n, r_lstore, r_lstore_n, r_astore, r_astore_n, r_iinc, r_iadd, r_iaddW, r_isub, r_isubW, r_imul, r_imulW, r_ladd, r_laddW, r_lsub, r_lsubW, r_lmul, r_lmulW, r_iand, r_ior, r_ishl, r_ishr, r_iushr, r_land, r_lor, r_lshl, r_lshr, r_lushr, r_idiv, r_irem, r_ldiv, r_lrem, r_lcmp, r_ineg, r_i2l, r_l2i, r_i2b, r_i2s, r_i2c, r_dup, r_pop, r_dup_x1, r_dup_x2, r_dup2, r_dup2L, r_icmp_eq, r_icmp_ne, r_icmp_lt, r_icmp_ge, r_icmp_gt, r_icmp_le, r_if_eq, r_if_ne, r_if_lt, r_if_ge, r_if_gt, r_if_le, r_acmp_eq, r_acmp_ne, r_ifnull, r_ifnonnull, r_goto, r_nop, r_tsw, r_lsw, r_getfield, r_getfinal, r_putfield, r_getstaticL, r_getstaticR, r_iaload, r_baload, r_saload, r_laload, r_aaload, r_aaloadM, r_iastore, r_bastore, r_zastore, r_sastore, r_lastore, r_aastore, r_alen, r_new, r_newarray, r_anewarray, r_invV, r_invI, r_objI, r_invS, r_acp, r_ireturn, r_zreturn, r_lreturn, r_return, r_areturn, r_athrow, ↓e_pI, ↓e_pL, ↓e_pR, ↓e_lg0, ↓e_lg1, ↓e_tk0, ↓e_tkI0, ↓e_tkI1, ↓e_tkI2, ↓e_tkI3, ↓e_tkI4, ↓e_tkL, ↓e_tkR0_0, ↓e_tkR0_1, ↓e_tkR1_0, ↓e_tkR1_1, ↓e_tkR2_0, ↓e_tkR2_1, ↓e_tkR3_0, ↓e_tkR3_1, ↓e_tkR4_0, ↓e_tkR4_1, ↓e_tkR5_0, ↓e_tkR5_1, ↓e_tkR6_0, ↓e_tkR6_1, ↓e_tkR7_0, ↓e_tkR7_1, ↓e_tkR8_0, ↓e_tkR8_1, ↓e_tkR9_0, ↓e_tkR9_1, ↓e_tkR10_0, ↓e_tkR10_1, ↓e_tkR11_0, ↓e_tkR11_1, ↓e_tkR12_0, ↓e_tkR12_1, ↓e_tkR13_0, ↓e_tkR13_1, ↓e_tkR14_0, ↓e_tkR14_1, ↓e_tkR15_0, ↓e_tkR15_1, ↓e_tkR16_0, ↓e_tkR16_1, ↓e_tkR17_0, ↓e_tkR17_1, ↓e_tkR39_0, ↓e_tkR39_1, ↓e_tkR40_0, ↓e_tkR40_1, ↓e_tkR41_0, ↓e_tkR41_1, ↓e_tkR42_0, ↓e_tkR42_1, ↓e_tkR43_0, ↓e_tkR43_1, ↓e_tkR44_0, ↓e_tkR44_1, ↓e_tkR45_0, ↓e_tkR45_1, ↓e_tkR46_0, ↓e_tkR46_1, ↓e_tkR47_0, ↓e_tkR47_1, ↓e_tkR48_0, ↓e_tkR48_1, ↓e_pv0, ↓e_pv1, ↓e_pv2, ↓e_pv3, ↓e_pv5, ↓e_pvR, ↓e_tsw0, ↓e_tsw1, ↓e_lsw0, ↓e_lsw1, e_kq100, e_kq0, e_kq3, e_kq5, e_kqR0, e_kqR1, e_kqR2, e_kqR3, e_kqR4, e_kqR5, e_kqR6, e_kqR7, e_kqR8, e_kqR9, e_kqR10, e_kqR11, e_kqR12, e_kqR13, e_kqR14, e_kqR15, e_kqR16, e_kqR17, e_kqR39, e_kqR40, e_kqR41, e_kqR42, e_kqR43, e_kqR44, e_kqR45, e_kqR46, e_kqR47, e_kqR48, e_st0I, e_st0R, e_st0L, e_st1N, e_st1I, e_st1L, e_st1R, e_st2, e_wd0, e_wdI, e_wdL, e_wdR, e_c1I, e_c1R, e_gv0, e_gv1, e_gv2, e_gv3, e_gv4, e_gv5, e_gvR0, e_gvR1, e_gvR2, e_gvR3, e_gvR4, e_gvR5, e_gvR6, e_gvR7, e_gvR8, e_gvR9, e_gvR10, e_gvR11, e_gvR12, e_gvR13, e_gvR14, e_gvR15, e_gvR16, e_gvR17, e_gvR39, e_gvR40, e_gvR41, e_gvR42, e_gvR43, e_gvR44, e_gvR45, e_gvR46, e_gvR47, e_gvR48, e_kX0, e_kX1, e_kVv, e_kVx, e_kIv, e_kIx, e_kLv, e_kLx, e_kRv, e_kRx, e_thr, e_lk1, e_ic0, e_ic1, e_jm, st_ap, clr_ap, e_lceq, e_lclt, e_lcgt, nn, ↓reduceIte, Nat.reduceDiv, Nat.reduceMod, Nat.reduceMul, Nat.reduceAdd, Nat.reduceEqDiff, Nat.reduceLeDiff, Int.reduceNatCast, Int.cast_ofNat_Int, Int.reduceSub, Int.reduceMul, Int.reduceNeg, Int.reduceAdd, Int.reduceLE, Int.reduceLT, Int.reduceEq, Int.reduceNe, true_and, and_true, true_or, and_self, ne_eq, not_false_eq_true, Bool.false_eq_true, reduceCtorEq, rd_l1, rd_l2, rd_l3, rd_l4, rd_l5, rd_l6, rd_l7, rd_l8, rd_l9, SB, rd_ge, i2b_2, false_and, and_false, not_true_eq_false, l120_0, s120_0, zC_18, zC_20, zC_21, zC_22, zC_23, zC_25, zC_26, zC_253, zC_254, zC_256, zC_257, zC_259, zC_260, zC_262, zC_263, zC_265, zC_266, zC_268, zC_269, zC_271, zC_272, zC_274, zC_275, zC_278, zC_279, zC_280, zC_281, zC_282, zC_284, zC_285, zC_287, zC_288, zC_290, zC_291, zC_293, zC_294, zC_296, zC_297, zC_299, zC_300, zC_302, zC_303, zC_304, zC_305, zC_306, zC_307, zC_308, zC_309, zC_310, zC_311, zC_312, zC_315, zC_316, zC_317, zC_319, zC_320, zC_321, zC_323, zC_324, zC_325, zC_327, zC_328, zC_329, zC_331, zC_332, zC_333, zC_335, zC_336, zC_337, zC_339, zC_340, zC_341, zC_343, zC_344, zC_345, zC_347, zC_348, zC_349, zC_350, zC_351, zC_352, zC_353, zC_354, zC_355, zC_356, zC_357, zC_358, zC_359, zC_361, zC_362, zC_363, zC_364, zC_367, zC_368, zC_369, zC_370, zC_371, zC_372, zC_373, zC_374, zC_375, zC_376, zC_378, zC_380, zC_381, zC_383, zC_384, zC_386, zC_387, zC_389, zC_390, zC_391, zC_392, zC_393, zC_394, zC_395, zC_396, zC_397, zC_398, zC_400, zC_402, zC_403, zC_405, zC_407, zC_409, zC_411, zC_413, zC_415, zC_417, zC_420, zC_421, zC_422, zC_423, zC_424, zC_425, zC_427, zC_429, zC_431, zC_433, zC_436, zC_437, zC_438, zC_439, zC_440, zC_441, zC_442, zC_443, zC_444, zC_445, zC_447, zC_448, zC_450, zC_451, zC_453, zC_454, zC_455, zC_456, zC_457, zC_458, zC_460, zC_461, zC_462, zC_463, zC_464, zC_465, zC_466, zC_467, zC_468, zC_469, zC_471, zC_473, zC_474, zC_476, zC_477, zC_478, zC_479, zC_480, zC_481, zC_482, zC_483, zC_484, zC_485, zC_487, zC_489, zC_490, zC_491, zC_493, zC_495, zC_497, zC_499]
  exact E_V ev1 (E_V ev2 hQ)
/-- c bytes of a list, from f on -/
def slc (g : Int → Int) (f : Int) : Nat → List Int
  | 0 => []
  | k + 1 => slc g f k ++ [g (f + k)]
theorem slc_l (g : Int → Int) (f : Int) (k : Nat) : (slc g f k).length = k := by
  induction k with
  | zero => rfl
  | succ k ih => rw [slc, List.length_append, ih]; rfl
theorem slc_g (g : Int → Int) (f : Int) (k i : Nat) (hi : i < k) : (slc g f k).getD i 0 = g (f + i) := by
  induction k with
  | zero => omega
  | succ k ih =>
    rw [slc, List.getD_eq_getElem?_getD]
    by_cases e : i < k
    · rw [List.getElem?_append_left (by rw [slc_l]; exact e), ← List.getD_eq_getElem?_getD]; exact ih e
    · have e' : i = k := by omega
      rw [e', List.getElem?_append_right (by rw [slc_l]; omega), slc_l, Nat.sub_self]; rfl
theorem slc_c {g g' : Int → Int} {f : Int} {k : Nat} (e : ∀ i : Nat, i < k → g (f + i) = g' (f + i)) : slc g f k = slc g' f k := by
  induction k with
  | zero => rfl
  | succ k ih => rw [slc, slc, ih (fun i hi => e i (by omega)), e k (by omega)]
/-- append (115) -/
theorem c_appO {p f c : Int} {L : List Int} (p17 : 17 ≤ p) (pn : p + 1 ≠ 19 ∧ p + 1 ≠ 20) (f0 : 0 ≤ f) (c0 : 0 ≤ c ∧ c ≤ 16000) (h2 : f + c ≤ ((gC.1 (p + 1)).2 : Int)) (B : BO h L) : ∃ h1 : Mem, Ev gC 115 [vR 3 19, vR 2 p, vI f, vI c] n h (.inl none) n h1 ∧ BO h1 (L ++ slc (h (p + 1)) f c.toNat) ∧ Fz boF h h1 := by
  have zc := zc19
  have hl : ((L ++ slc (h (p + 1)) f c.toNat).length : Int) = L.length + c := by rw [List.length_append, slc_l]; omega
  have fr : Fz boF h (apC h 19 p f c) := fun a j g => by
    have g' : ¬ (a = 19 ∨ a = 20) := g
    unfold apC cpy
    rw [st_na (by omega)]
    show (if _ then _ else _) = _
    rw [if_neg (by omega)]
  rcases B with ⟨b1, b2, b3⟩ | ⟨b1, b2, b3, b4⟩
  · have e := b3.1
    by_cases q : (L.length : Int) + c ≤ 16000
    · refine ⟨_, c_append (n := n) (o := 19) (p := p) (f := f) (c := c) (by omega) (by omega) (by omega) f0 c0.1 (by omega) (by omega) h2, Or.inl ⟨by omega, ?_, ?_, fun i hi => ?_⟩, fr⟩
      · unfold apC cpy
        rw [st_nj (by omega)]
        show (if _ then _ else _) = _
        rw [if_neg (by omega)]; exact b2
      · unfold apC
        rw [st_eq]; omega
      · unfold apC cpy
        rw [st_na (by omega)]
        show (if _ then _ else _) = _
        rw [List.getD_eq_getElem?_getD]
        by_cases y : i < L.length
        · rw [if_neg (by omega), List.getElem?_append_left y, ← List.getD_eq_getElem?_getD]
          exact b3.2 i y
        · rw [if_pos (by omega), List.getElem?_append_right (by omega), ← List.getD_eq_getElem?_getD, slc_g _ _ _ _ (by omega), rd_ge (by omega), e]
          congr 1
          omega
    · refine ⟨_, c_appendF (n := n) (o := 19) (p := p) (f := f) (c := c) (by omega) (by omega) (by omega) (by omega), Or.inr ⟨by omega, st_eq _ _ _ _, by rw [st_nj (by omega)]; omega, by rw [st_nj (by omega)]; omega⟩, Fz_st Fz_0 (Or.inl rfl)⟩
  · by_cases q : h 19 1 + c ≤ 16000
    · refine ⟨_, c_append (n := n) (o := 19) (p := p) (f := f) (c := c) (by omega) (by omega) (by omega) f0 c0.1 (by omega) (by omega) h2, Or.inr ⟨by omega, ?_, ?_, ?_⟩, fr⟩
      · unfold apC cpy
        rw [st_nj (by omega)]
        show (if _ then _ else _) = _
        rw [if_neg (by omega)]; exact b2
      · unfold apC
        rw [st_eq]; omega
      · unfold apC
        rw [st_eq]; omega
    · refine ⟨_, c_appendF (n := n) (o := 19) (p := p) (f := f) (c := c) (by omega) (by omega) (by omega) (by omega), Or.inr ⟨by omega, st_eq _ _ _ _, by rw [st_nj (by omega)]; omega, by rw [st_nj (by omega)]; omega⟩, Fz_st Fz_0 (Or.inl rfl)⟩
end
