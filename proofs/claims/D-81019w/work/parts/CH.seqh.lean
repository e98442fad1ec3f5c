set_option maxRecDepth 100000
/-- the house's row of tokens -/
def HT (T : TK) (h : Mem) : Prop := h 313 10 = T.1 ∧ HTK T (fun k => h 350 k) (fun v => h 347 v)
def sqF (a j : Int) : Prop := (a = 313 ∧ j = 10) ∨ a = 350 ∨ a = 347
theorem i31_t : ∀ v : Fin 18, ian v.val 31 = v.val := by decide +kernel
theorem i31 {v : Int} (v0 : 0 ≤ v ∧ v < 18) : ian v 31 = v := by
  have := i31_t ⟨v.toNat, by omega⟩
  rw [show (((⟨v.toNat, by omega⟩ : Fin 18).val : Nat) : Int) = v by show ((v.toNat : Nat) : Int) = v; omega] at this
  exact this
theorem i17_t : ∀ d : Fin 8, ior 17 (isl d.val 5) = 17 + 32 * d.val ∧ ian (17 + 32 * d.val) 31 = 17 ∧ isr (17 + 32 * d.val) 5 = d.val := by decide +kernel
theorem i17 {d : Int} (d0 : 0 ≤ d ∧ d < 8) : ior 17 (isl d 5) = 17 + 32 * d ∧ ian (17 + 32 * d) 31 = 17 ∧ isr (17 + 32 * d) 5 = d := by
  have := i17_t ⟨d.toNat, by omega⟩
  rw [show (((⟨d.toNat, by omega⟩ : Fin 8).val : Nat) : Int) = d by show ((d.toNat : Nat) : Int) = d; omega] at this
  exact this
section
variable {B : Qt → Prop} {Φ : Out → Int → Mem → Out → Int → Mem → Prop} {KL : Qt → Qt} {n X : Int} {h : Mem}
/-- put (547) -/
theorem c_put {T : TK} {v : Int} (G : TKG T) (H : HT T h) (v0 : 0 ≤ v ∧ v ≤ 15) (tb : T.1 < 704) : ∃ h1 : Mem, Ev gC 547 [vR 13 313, vI v] n h (.inl none) n h1 ∧ HT (tpu v (-1) T) h1 ∧ Fz sqF h h1 := by
  obtain ⟨H1, H2⟩ := H
  have g0 := G.1
  have cr := cno_r (f := T.2.1) (v := v) T.1.toNat
  have hv : h 347 v = cno T.2.1 v T.1.toNat := H2.2 v v0.1 (by omega)
  refine ⟨st (st (st h 313 10 (T.1 + 1)) 350 T.1 v) 347 v (h 347 v + 1), ?_, ⟨?_, ?_⟩, Fz_st (Fz_st (Fz_st Fz_0 (by unfold sqF; omega)) (by unfold sqF; omega)) (by unfold sqF; omega)⟩
  · intro Q hQ
    refine T_go (md := true) [some (vR 13 313), some (vI v)] [] 99 (by decide) rfl (Nat.le_of_ble_eq_true rfl) GC FC rfl k547 ?_
    simp -implicitDefEqProofs only [r_iconst, r_bipush, r_sipush, r_ldc, r_ldc_w, r_lconst, r_ldc2_w, r_aconst_null, r_iload, r_iload_n, r_lload, r_lload_n, r_aload, r_aload_n, r_istore, r_istore_n, r_lstore, r_lstore_n, r_astore, r_astore_n, r_iinc, r_iadd, r_iaddW, r_isub, r_isubW, r_imul, r_imulW, r_ladd, r_laddW, r_lsub, r_lsubW, r_lmul, r_lmulW, r_iand, r_ior, r_ishl, r_ishr, r_iushr, r_land, r_lor, r_lshl, r_lshr, r_lushr, r_idiv, r_irem, r_ldiv, r_lrem, r_lcmp, r_ineg, r_i2l, r_l2i, r_i2b, r_i2s, r_i2c, r_dup, r_pop, r_dup_x1, r_dup_x2, r_dup2, r_dup2L, r_icmp_eq, r_icmp_ne, r_icmp_lt, r_icmp_ge, r_icmp_gt, r_icmp_le, r_if_eq, r_if_ne, r_if_lt, r_if_ge, r_if_gt, r_if_le, r_acmp_eq, r_acmp_ne, r_ifnull, r_ifnonnull, r_goto, r_nop, r_tsw, r_lsw, r_getfield, r_getfinal, r_putfield, r_getstaticL, r_getstaticR, r_iaload, r_baload, r_saload, r_laload, r_aaload, r_aaloadM, r_iastore, r_bastore, r_zastore, r_sastore, r_lastore, r_aastore, r_alen, r_new, r_newarray, r_anewarray, r_invV, r_invI, r_objI, r_invS, r_acp, r_ireturn, r_zreturn, r_lreturn, r_return, r_areturn, r_athrow, ↓e_pI, ↓e_pL, ↓e_pR, ↓e_lg0, ↓e_lg1, ↓e_tk0, ↓e_tkI0, ↓e_tkI1, ↓e_tkI2, ↓e_tkI3, ↓e_tkI4, ↓e_tkL, ↓e_tkR0_0, ↓e_tkR0_1, ↓e_tkR1_0, ↓e_tkR1_1, ↓e_tkR2_0, ↓e_tkR2_1, ↓e_tkR3_0, ↓e_tkR3_1, ↓e_tkR4_0, ↓e_tkR4_1, ↓e_tkR5_0, ↓e_tkR5_1, ↓e_tkR6_0, ↓e_tkR6_1, ↓e_tkR7_0, ↓e_tkR7_1, ↓e_tkR8_0, ↓e_tkR8_1, ↓e_tkR9_0, ↓e_tkR9_1, ↓e_tkR10_0, ↓e_tkR10_1, ↓e_tkR11_0, ↓e_tkR11_1, ↓e_tkR12_0, ↓e_tkR12_1, ↓e_tkR13_0, ↓e_tkR13_1, ↓e_tkR14_0, ↓e_tkR14_1, ↓e_tkR15_0, ↓e_tkR15_1, ↓e_tkR16_0, ↓e_tkR16_1, ↓e_tkR17_0, ↓e_tkR17_1, ↓e_tkR39_0, ↓e_tkR39_1, ↓e_tkR40_0, ↓e_tkR40_1, ↓e_tkR41_0, ↓e_tkR41_1, ↓e_tkR42_0, ↓e_tkR42_1, ↓e_tkR43_0, ↓e_tkR43_1, ↓e_tkR44_0, ↓e_tkR44_1, ↓e_tkR45_0, ↓e_tkR45_1, ↓e_tkR46_0, ↓e_tkR46_1, ↓e_tkR47_0, ↓e_tkR47_1, ↓e_tkR48_0, ↓e_tkR48_1, ↓e_pv0, ↓e_pv1, ↓e_pv2, ↓e_pv3, ↓e_pv5, ↓e_pvR, ↓e_tsw0, ↓e_tsw1, ↓e_lsw0, ↓e_lsw1, e_kq100, e_kq0, e_kq3, e_kq5, e_kqR0, e_kqR1, e_kqR2, e_kqR3, e_kqR4, e_kqR5, e_kqR6, e_kqR7, e_kqR8, e_kqR9, e_kqR10, e_kqR11, e_kqR12, e_kqR13, e_kqR14, e_kqR15, e_kqR16, e_kqR17, e_kqR39, e_kqR40, e_kqR41, e_kqR42, e_kqR43, e_kqR44, e_kqR45, e_kqR46, e_kqR47, e_kqR48, e_st0I, e_st0R, e_st0L, e_st1N, e_st1I, e_st1L, e_st1R, e_st2, e_wd0, e_wdI, e_wdL, e_wdR, e_c1I, e_c1R, e_gv0, e_gv1, e_gv2, e_gv3, e_gv4, e_gv5, e_gvR0, e_gvR1, e_gvR2, e_gvR3, e_gvR4, e_gvR5, e_gvR6, e_gvR7, e_gvR8, e_gvR9, e_gvR10, e_gvR11, e_gvR12, e_gvR13, e_gvR14, e_gvR15, e_gvR16, e_gvR17, e_gvR39, e_gvR40, e_gvR41, e_gvR42, e_gvR43, e_gvR44, e_gvR45, e_gvR46, e_gvR47, e_gvR48, e_kX0, e_kX1, e_kVv, e_kVx, e_kIv, e_kIx, e_kLv, e_kLx, e_kRv, e_kRx, e_thr, e_lk1, e_ic0, e_ic1, e_jm, st_ap, clr_ap, e_lceq, e_lclt, e_lcgt, nn, ↓reduceIte, Nat.reduceDiv, Nat.reduceMod, Nat.reduceMul, Nat.reduceAdd, Nat.reduceEqDiff, Nat.reduceLeDiff, Int.reduceNatCast, Int.cast_ofNat_Int, Int.reduceSub, Int.reduceMul, Int.reduceNeg, Int.reduceAdd, Int.reduceLE, Int.reduceLT, Int.reduceEq, Int.reduceNe, true_and, and_true, true_or, and_self, ne_eq, not_false_eq_true, Bool.false_eq_true, reduceCtorEq, rd_l1, rd_l2, rd_l3, rd_l4, rd_l5, rd_l6, rd_l7, rd_l8, rd_l9, SB, rd_ge, i2b_2, false_and, and_false, not_true_eq_false, l547_0, s547_0, zC_18, zC_20, zC_21, zC_22, zC_23, zC_25, zC_26, zC_253, zC_254, zC_256, zC_257, zC_259, zC_260, zC_262, zC_263, zC_265, zC_266, zC_268, zC_269, zC_271, zC_272, zC_274, zC_275, zC_278, zC_279, zC_280, zC_281, zC_282, zC_284, zC_285, zC_287, zC_288, zC_290, zC_291, zC_293, zC_294, zC_296, zC_297, zC_299, zC_300, zC_302, zC_303, zC_304, zC_305, zC_306, zC_307, zC_308, zC_309, zC_310, zC_311, zC_312, zC_315, zC_316, zC_317, zC_319, zC_320, zC_321, zC_323, zC_324, zC_325, zC_327, zC_328, zC_329, zC_331, zC_332, zC_333, zC_335, zC_336, zC_337, zC_339, zC_340, zC_341, zC_343, zC_344, zC_345, zC_347, zC_348, zC_349, zC_350, zC_351, zC_352, zC_353, zC_354, zC_355, zC_356, zC_357, zC_358, zC_359, zC_361, zC_362, zC_363, zC_364, zC_367, zC_368, zC_369, zC_370, zC_371, zC_372, zC_373, zC_374, zC_375, zC_376, zC_378, zC_380, zC_381, zC_383, zC_384, zC_386, zC_387, zC_389, zC_390, zC_391, zC_392, zC_393, zC_394, zC_395, zC_396, zC_397, zC_398, zC_400, zC_402, zC_403, zC_405, zC_407, zC_409, zC_411, zC_413, zC_415, zC_417, zC_420, zC_421, zC_422, zC_423, zC_424, zC_425, zC_427, zC_429, zC_431, zC_433, zC_436, zC_437, zC_438, zC_439, zC_440, zC_441, zC_442, zC_443, zC_444, zC_445, zC_447, zC_448, zC_450, zC_451, zC_453, zC_454, zC_455, zC_456, zC_457, zC_458, zC_460, zC_461, zC_462, zC_463, zC_464, zC_465, zC_466, zC_467, zC_468, zC_469, zC_471, zC_473, zC_474, zC_476, zC_477, zC_478, zC_479, zC_480, zC_481, zC_482, zC_483, zC_484, zC_485, zC_487, zC_489, zC_490, zC_491, zC_493, zC_495, zC_497, zC_499]
    rw [H1, i31 (by omega)]
    exact ⟨(by first | omega | (constructor <;> omega)), (by first | omega | (constructor <;> omega)), (by first | omega | (constructor <;> omega)), (by first | omega | (constructor <;> omega)), (by first | omega | (constructor <;> omega)), (by first | omega | (constructor <;> omega)), (by first | omega | (constructor <;> omega)), (by first | omega | (constructor <;> omega)), hQ⟩
  · rw [st_na (by omega), st_na (by omega), st_eq]; rfl
  · have k := HTK_p (v := v) (x := -1) H2 g0 (Or.inl ⟨by omega, rfl⟩)
    rw [if_pos rfl] at k
    refine ⟨fun k' a b => ?_, fun u a b => ?_⟩
    · rw [← k.1 k' a b]
      show st (st (st h 313 10 (T.1 + 1)) 350 T.1 v) 347 v (h 347 v + 1) 350 k' = _
      rw [st_na (by omega)]
      by_cases e : k' = T.1
      · rw [e, st_eq, ufn_e]
      · rw [st_nj e, ufn_n e, st_na (by omega)]
    · rw [← k.2 u a b]
      show st (st (st h 313 10 (T.1 + 1)) 350 T.1 v) 347 v (h 347 v + 1) 347 u = _
      by_cases e : u = v
      · rw [e, st_eq, ufn_e]
      · rw [st_nj e, ufn_n e, st_na (by omega), st_na (by omega)]
/-- how far a number of digits goes -/
def Bd : Nat → Int
  | 0 => 2
  | d + 1 => 8 * (Bd d - 2) + 10
theorem c_arC {r : Int} {Q : Qt} (r0 : 3 ≤ r ∧ r ≤ 704) : ∀ (d : Nat) (x2 x3 : Int), 3 ≤ x3 → x3 ≤ Bd d → x3 ≤ 704 → 0 ≤ x2 → x2 + d ≤ 100 → T_at gC 546 32 [some (vR 13 313), some (vI r), some (vI (x2 - 1 + tzn d x3)), some (vI r), some (vI (x2 - 1 + tzn d x3 - 1))] [] n h Q → T_at gC 546 4 [some (vR 13 313), some (vI r), some (vI x2), some (vI x3), none] [] n h Q := by
  intro d
  induction d with
  | zero => intro x2 x3 a b; have : Bd 0 = 2 := rfl; omega
  | succ d ih =>
    intro x2 x3 a b c x20 x21 k
    have e : Bd (d + 1) = 8 * (Bd d - 2) + 10 := rfl
    have td : (x3 - 3).tdiv 8 = (x3 - 3) / 8 := Int.tdiv_eq_ediv_of_nonneg (by omega)
    unfold tzn at k
    by_cases q : x3 ≤ 10
    · rw [if_pos q] at k
      refine blk (md := true) [4, 32] 99 GC FC rfl k546 ?_
      simp -implicitDefEqProofs only [r_iconst, r_bipush, r_sipush, r_ldc, r_ldc_w, r_lconst, r_ldc2_w, r_aconst_null, r_iload, r_iload_n, r_lload, r_lload_n, r_aload, r_aload_n, r_istore, r_istore_n, r_lstore, r_lstore_n, r_astore, r_astore_n, r_iinc, r_iadd, r_iaddW, r_isub, r_isubW, r_imul, r_imulW, r_ladd, r_laddW, r_lsub, r_lsubW, r_lmul, r_lmulW, r_iand, r_ior, r_ishl, r_ishr, r_iushr, r_land, r_lor, r_lshl, r_lshr, r_lushr, r_idiv, r_irem, r_ldiv, r_lrem, r_lcmp, r_ineg, r_i2l, r_l2i, r_i2b, r_i2s, r_i2c, r_dup, r_pop, r_dup_x1, r_dup_x2, r_dup2, r_dup2L, r_icmp_eq, r_icmp_ne, r_icmp_lt, r_icmp_ge, r_icmp_gt, r_icmp_le, r_if_eq, r_if_ne, r_if_lt, r_if_ge, r_if_gt, r_if_le, r_acmp_eq, r_acmp_ne, r_ifnull, r_ifnonnull, r_goto, r_nop, r_tsw, r_lsw, r_getfield, r_getfinal, r_putfield, r_getstaticL, r_getstaticR, r_iaload, r_baload, r_saload, r_laload, r_aaload, r_aaloadM, r_iastore, r_bastore, r_zastore, r_sastore, r_lastore, r_aastore, r_alen, r_new, r_newarray, r_anewarray, r_invV, r_invI, r_objI, r_invS, r_acp, r_ireturn, r_zreturn, r_lreturn, r_return, r_areturn, r_athrow, ↓e_pI, ↓e_pL, ↓e_pR, ↓e_lg0, ↓e_lg1, ↓e_tk0, ↓e_tkI0, ↓e_tkI1, ↓e_tkI2, ↓e_tkI3, ↓e_tkI4, ↓e_tkL, ↓e_tkR0_0, ↓e_tkR0_1, ↓e_tkR1_0, ↓e_tkR1_1, ↓e_tkR2_0, ↓e_tkR2_1, ↓e_tkR3_0, ↓e_tkR3_1, ↓e_tkR4_0, ↓e_tkR4_1, ↓e_tkR5_0, ↓e_tkR5_1, ↓e_tkR6_0, ↓e_tkR6_1, ↓e_tkR7_0, ↓e_tkR7_1, ↓e_tkR8_0, ↓e_tkR8_1, ↓e_tkR9_0, ↓e_tkR9_1, ↓e_tkR10_0, ↓e_tkR10_1, ↓e_tkR11_0, ↓e_tkR11_1, ↓e_tkR12_0, ↓e_tkR12_1, ↓e_tkR13_0, ↓e_tkR13_1, ↓e_tkR14_0, ↓e_tkR14_1, ↓e_tkR15_0, ↓e_tkR15_1, ↓e_tkR16_0, ↓e_tkR16_1, ↓e_tkR17_0, ↓e_tkR17_1, ↓e_tkR39_0, ↓e_tkR39_1, ↓e_tkR40_0, ↓e_tkR40_1, ↓e_tkR41_0, ↓e_tkR41_1, ↓e_tkR42_0, ↓e_tkR42_1, ↓e_tkR43_0, ↓e_tkR43_1, ↓e_tkR44_0, ↓e_tkR44_1, ↓e_tkR45_0, ↓e_tkR45_1, ↓e_tkR46_0, ↓e_tkR46_1, ↓e_tkR47_0, ↓e_tkR47_1, ↓e_tkR48_0, ↓e_tkR48_1, ↓e_pv0, ↓e_pv1, ↓e_pv2, ↓e_pv3, ↓e_pv5, ↓e_pvR, ↓e_tsw0, ↓e_tsw1, ↓e_lsw0, ↓e_lsw1, e_kq100, e_kq0, e_kq3, e_kq5, e_kqR0, e_kqR1, e_kqR2, e_kqR3, e_kqR4, e_kqR5, e_kqR6, e_kqR7, e_kqR8, e_kqR9, e_kqR10, e_kqR11, e_kqR12, e_kqR13, e_kqR14, e_kqR15, e_kqR16, e_kqR17, e_kqR39, e_kqR40, e_kqR41, e_kqR42, e_kqR43, e_kqR44, e_kqR45, e_kqR46, e_kqR47, e_kqR48, e_st0I, e_st0R, e_st0L, e_st1N, e_st1I, e_st1L, e_st1R, e_st2, e_wd0, e_wdI, e_wdL, e_wdR, e_c1I, e_c1R, e_gv0, e_gv1, e_gv2, e_gv3, e_gv4, e_gv5, e_gvR0, e_gvR1, e_gvR2, e_gvR3, e_gvR4, e_gvR5, e_gvR6, e_gvR7, e_gvR8, e_gvR9, e_gvR10, e_gvR11, e_gvR12, e_gvR13, e_gvR14, e_gvR15, e_gvR16, e_gvR17, e_gvR39, e_gvR40, e_gvR41, e_gvR42, e_gvR43, e_gvR44, e_gvR45, e_gvR46, e_gvR47, e_gvR48, e_kX0, e_kX1, e_kVv, e_kVx, e_kIv, e_kIx, e_kLv, e_kLx, e_kRv, e_kRx, e_thr, e_lk1, e_ic0, e_ic1, e_jm, st_ap, clr_ap, e_lceq, e_lclt, e_lcgt, nn, ↓reduceIte, Nat.reduceDiv, Nat.reduceMod, Nat.reduceMul, Nat.reduceAdd, Nat.reduceEqDiff, Nat.reduceLeDiff, Int.reduceNatCast, Int.cast_ofNat_Int, Int.reduceSub, Int.reduceMul, Int.reduceNeg, Int.reduceAdd, Int.reduceLE, Int.reduceLT, Int.reduceEq, Int.reduceNe, true_and, and_true, true_or, and_self, ne_eq, not_false_eq_true, Bool.false_eq_true, reduceCtorEq, rd_l1, rd_l2, rd_l3, rd_l4, rd_l5, rd_l6, rd_l7, rd_l8, rd_l9, SB, rd_ge, i2b_2, false_and, and_false, not_true_eq_false, l546_0, l546_4, l546_25, l546_32, l546_75, s546_0, s546_4, s546_25, s546_32, s546_75, zC_18, zC_20, zC_21, zC_22, zC_23, zC_25, zC_26, zC_253, zC_254, zC_256, zC_257, zC_259, zC_260, zC_262, zC_263, zC_265, zC_266, zC_268, zC_269, zC_271, zC_272, zC_274, zC_275, zC_278, zC_279, zC_280, zC_281, zC_282, zC_284, zC_285, zC_287, zC_288, zC_290, zC_291, zC_293, zC_294, zC_296, zC_297, zC_299, zC_300, zC_302, zC_303, zC_304, zC_305, zC_306, zC_307, zC_308, zC_309, zC_310, zC_311, zC_312, zC_315, zC_316, zC_317, zC_319, zC_320, zC_321, zC_323, zC_324, zC_325, zC_327, zC_328, zC_329, zC_331, zC_332, zC_333, zC_335, zC_336, zC_337, zC_339, zC_340, zC_341, zC_343, zC_344, zC_345, zC_347, zC_348, zC_349, zC_350, zC_351, zC_352, zC_353, zC_354, zC_355, zC_356, zC_357, zC_358, zC_359, zC_361, zC_362, zC_363, zC_364, zC_367, zC_368, zC_369, zC_370, zC_371, zC_372, zC_373, zC_374, zC_375, zC_376, zC_378, zC_380, zC_381, zC_383, zC_384, zC_386, zC_387, zC_389, zC_390, zC_391, zC_392, zC_393, zC_394, zC_395, zC_396, zC_397, zC_398, zC_400, zC_402, zC_403, zC_405, zC_407, zC_409, zC_411, zC_413, zC_415, zC_417, zC_420, zC_421, zC_422, zC_423, zC_424, zC_425, zC_427, zC_429, zC_431, zC_433, zC_436, zC_437, zC_438, zC_439, zC_440, zC_441, zC_442, zC_443, zC_444, zC_445, zC_447, zC_448, zC_450, zC_451, zC_453, zC_454, zC_455, zC_456, zC_457, zC_458, zC_460, zC_461, zC_462, zC_463, zC_464, zC_465, zC_466, zC_467, zC_468, zC_469, zC_471, zC_473, zC_474, zC_476, zC_477, zC_478, zC_479, zC_480, zC_481, zC_482, zC_483, zC_484, zC_485, zC_487, zC_489, zC_490, zC_491, zC_493, zC_495, zC_497, zC_499]
      refine iteN (by omega) ⟨(by first | omega | (constructor <;> omega)), ?_⟩
      rw [show x2 - 1 + 1 = x2 by omega] at k
      exact k
    · rw [if_neg q] at k
      have j := ih (x2 + 1) ((x3 - 3) / 8 + 2) (by omega) (by omega) (by omega) (by omega) (by omega) (by
        rw [show x2 + 1 - 1 + tzn d ((x3 - 3) / 8 + 2) = x2 - 1 + (tzn d ((x3 - 3) / 8 + 2) + 1) by omega]; exact k)
      refine blk (md := true) [4, 32] 99 GC FC rfl k546 ?_
      simp -implicitDefEqProofs only [r_iconst, r_bipush, r_sipush, r_ldc, r_ldc_w, r_lconst, r_ldc2_w, r_aconst_null, r_iload, r_iload_n, r_lload, r_lload_n, r_aload, r_aload_n, r_istore, r_istore_n, r_lstore, r_lstore_n, r_astore, r_astore_n, r_iinc, r_iadd, r_iaddW, r_isub, r_isubW, r_imul, r_imulW, r_ladd, r_laddW, r_lsub, r_lsubW, r_lmul, r_lmulW, r_iand, r_ior, r_ishl, r_ishr, r_iushr, r_land, r_lor, r_lshl, r_lshr, r_lushr, r_idiv, r_irem, r_ldiv, r_lrem, r_lcmp, r_ineg, r_i2l, r_l2i, r_i2b, r_i2s, r_i2c, r_dup, r_pop, r_dup_x1, r_dup_x2, r_dup2, r_dup2L, r_icmp_eq, r_icmp_ne, r_icmp_lt, r_icmp_ge, r_icmp_gt, r_icmp_le, r_if_eq, r_if_ne, r_if_lt, r_if_ge, r_if_gt, r_if_le, r_acmp_eq, r_acmp_ne, r_ifnull, r_ifnonnull, r_goto, r_nop, r_tsw, r_lsw, r_getfield, r_getfinal, r_putfield, r_getstaticL, r_getstaticR, r_iaload, r_baload, r_saload, r_laload, r_aaload, r_aaloadM, r_iastore, r_bastore, r_zastore, r_sastore, r_lastore, r_aastore, r_alen, r_new, r_newarray, r_anewarray, r_invV, r_invI, r_objI, r_invS, r_acp, r_ireturn, r_zreturn, r_lreturn, r_return, r_areturn, r_athrow, ↓e_pI, ↓e_pL, ↓e_pR, ↓e_lg0, ↓e_lg1, ↓e_tk0, ↓e_tkI0, ↓e_tkI1, ↓e_tkI2, ↓e_tkI3, ↓e_tkI4, ↓e_tkL, ↓e_tkR0_0, ↓e_tkR0_1, ↓e_tkR1_0, ↓e_tkR1_1, ↓e_tkR2_0, ↓e_tkR2_1, ↓e_tkR3_0, ↓e_tkR3_1, ↓e_tkR4_0, ↓e_tkR4_1, ↓e_tkR5_0, ↓e_tkR5_1, ↓e_tkR6_0, ↓e_tkR6_1, ↓e_tkR7_0, ↓e_tkR7_1, ↓e_tkR8_0, ↓e_tkR8_1, ↓e_tkR9_0, ↓e_tkR9_1, ↓e_tkR10_0, ↓e_tkR10_1, ↓e_tkR11_0, ↓e_tkR11_1, ↓e_tkR12_0, ↓e_tkR12_1, ↓e_tkR13_0, ↓e_tkR13_1, ↓e_tkR14_0, ↓e_tkR14_1, ↓e_tkR15_0, ↓e_tkR15_1, ↓e_tkR16_0, ↓e_tkR16_1, ↓e_tkR17_0, ↓e_tkR17_1, ↓e_tkR39_0, ↓e_tkR39_1, ↓e_tkR40_0, ↓e_tkR40_1, ↓e_tkR41_0, ↓e_tkR41_1, ↓e_tkR42_0, ↓e_tkR42_1, ↓e_tkR43_0, ↓e_tkR43_1, ↓e_tkR44_0, ↓e_tkR44_1, ↓e_tkR45_0, ↓e_tkR45_1, ↓e_tkR46_0, ↓e_tkR46_1, ↓e_tkR47_0, ↓e_tkR47_1, ↓e_tkR48_0, ↓e_tkR48_1, ↓e_pv0, ↓e_pv1, ↓e_pv2, ↓e_pv3, ↓e_pv5, ↓e_pvR, ↓e_tsw0, ↓e_tsw1, ↓e_lsw0, ↓e_lsw1, e_kq100, e_kq0, e_kq3, e_kq5, e_kqR0, e_kqR1, e_kqR2, e_kqR3, e_kqR4, e_kqR5, e_kqR6, e_kqR7, e_kqR8, e_kqR9, e_kqR10, e_kqR11, e_kqR12, e_kqR13, e_kqR14, e_kqR15, e_kqR16, e_kqR17, e_kqR39, e_kqR40, e_kqR41, e_kqR42, e_kqR43, e_kqR44, e_kqR45, e_kqR46, e_kqR47, e_kqR48, e_st0I, e_st0R, e_st0L, e_st1N, e_st1I, e_st1L, e_st1R, e_st2, e_wd0, e_wdI, e_wdL, e_wdR, e_c1I, e_c1R, e_gv0, e_gv1, e_gv2, e_gv3, e_gv4, e_gv5, e_gvR0, e_gvR1, e_gvR2, e_gvR3, e_gvR4, e_gvR5, e_gvR6, e_gvR7, e_gvR8, e_gvR9, e_gvR10, e_gvR11, e_gvR12, e_gvR13, e_gvR14, e_gvR15, e_gvR16, e_gvR17, e_gvR39, e_gvR40, e_gvR41, e_gvR42, e_gvR43, e_gvR44, e_gvR45, e_gvR46, e_gvR47, e_gvR48, e_kX0, e_kX1, e_kVv, e_kVx, e_kIv, e_kIx, e_kLv, e_kLx, e_kRv, e_kRx, e_thr, e_lk1, e_ic0, e_ic1, e_jm, st_ap, clr_ap, e_lceq, e_lclt, e_lcgt, nn, ↓reduceIte, Nat.reduceDiv, Nat.reduceMod, Nat.reduceMul, Nat.reduceAdd, Nat.reduceEqDiff, Nat.reduceLeDiff, Int.reduceNatCast, Int.cast_ofNat_Int, Int.reduceSub, Int.reduceMul, Int.reduceNeg, Int.reduceAdd, Int.reduceLE, Int.reduceLT, Int.reduceEq, Int.reduceNe, true_and, and_true, true_or, and_self, ne_eq, not_false_eq_true, Bool.false_eq_true, reduceCtorEq, rd_l1, rd_l2, rd_l3, rd_l4, rd_l5, rd_l6, rd_l7, rd_l8, rd_l9, SB, rd_ge, i2b_2, false_and, and_false, not_true_eq_false, l546_0, l546_4, l546_25, l546_32, l546_75, s546_0, s546_4, s546_25, s546_32, s546_75, zC_18, zC_20, zC_21, zC_22, zC_23, zC_25, zC_26, zC_253, zC_254, zC_256, zC_257, zC_259, zC_260, zC_262, zC_263, zC_265, zC_266, zC_268, zC_269, zC_271, zC_272, zC_274, zC_275, zC_278, zC_279, zC_280, zC_281, zC_282, zC_284, zC_285, zC_287, zC_288, zC_290, zC_291, zC_293, zC_294, zC_296, zC_297, zC_299, zC_300, zC_302, zC_303, zC_304, zC_305, zC_306, zC_307, zC_308, zC_309, zC_310, zC_311, zC_312, zC_315, zC_316, zC_317, zC_319, zC_320, zC_321, zC_323, zC_324, zC_325, zC_327, zC_328, zC_329, zC_331, zC_332, zC_333, zC_335, zC_336, zC_337, zC_339, zC_340, zC_341, zC_343, zC_344, zC_345, zC_347, zC_348, zC_349, zC_350, zC_351, zC_352, zC_353, zC_354, zC_355, zC_356, zC_357, zC_358, zC_359, zC_361, zC_362, zC_363, zC_364, zC_367, zC_368, zC_369, zC_370, zC_371, zC_372, zC_373, zC_374, zC_375, zC_376, zC_378, zC_380, zC_381, zC_383, zC_384, zC_386, zC_387, zC_389, zC_390, zC_391, zC_392, zC_393, zC_394, zC_395, zC_396, zC_397, zC_398, zC_400, zC_402, zC_403, zC_405, zC_407, zC_409, zC_411, zC_413, zC_415, zC_417, zC_420, zC_421, zC_422, zC_423, zC_424, zC_425, zC_427, zC_429, zC_431, zC_433, zC_436, zC_437, zC_438, zC_439, zC_440, zC_441, zC_442, zC_443, zC_444, zC_445, zC_447, zC_448, zC_450, zC_451, zC_453, zC_454, zC_455, zC_456, zC_457, zC_458, zC_460, zC_461, zC_462, zC_463, zC_464, zC_465, zC_466, zC_467, zC_468, zC_469, zC_471, zC_473, zC_474, zC_476, zC_477, zC_478, zC_479, zC_480, zC_481, zC_482, zC_483, zC_484, zC_485, zC_487, zC_489, zC_490, zC_491, zC_493, zC_495, zC_497, zC_499]
      rw [td]
      exact iteP (by omega) ⟨(by first | omega | (constructor <;> omega)), (by first | omega | (constructor <;> omega)), (by first | omega | (constructor <;> omega)), (by first | omega | (constructor <;> omega)), j⟩
/-- the digits are written from the last on -/
theorem c_arW {r n' : Int} {Q : Qt} {T : TK} (t0 : 0 ≤ T.1) (tb : T.1 + n' ≤ 704) (n0 : n' ≤ 100) : ∀ (d : Nat) (x3 k : Int) (h : Mem), 3 ≤ x3 → x3 ≤ 704 → tzn d x3 = k + 1 → k < n' → h 313 10 = T.1 → (∀ (h1 : Mem) (y3 : Int), (∀ i, 0 ≤ i → i ≤ k → h1 350 (T.1 + i) = 17 + 32 * (tzd d x3 T).2.2 (T.1 + i)) → (∀ a j, ¬ (a = 350 ∧ T.1 ≤ j ∧ j ≤ T.1 + k) → h1 a j = h a j) → T_at gC 546 32 [some (vR 13 313), some (vI r), some (vI n'), some (vI y3), some (vI (-1))] [] n h1 Q) → T_at gC 546 32 [some (vR 13 313), some (vI r), some (vI n'), some (vI x3), some (vI k)] [] n h Q := by
  intro d
  induction d with
  | zero =>
    intro x3 k h a b e c e0 fin
    have e : (0 : Int) = k + 1 := e
    rw [show k = -1 by omega]
    exact fin h x3 (fun i a b => by omega) (fun a j _ => rfl)
  | succ d ih =>
    intro x3 k h a b e c e0 fin
    have td : (x3 - 3).tdiv 8 = (x3 - 3) / 8 := Int.tdiv_eq_ediv_of_nonneg (by omega)
    have tm : (x3 - 3).tmod 8 = (x3 - 3) % 8 := Int.tmod_eq_emod_of_nonneg (by omega)
    have iv := (i17 (d := (x3 - 3) % 8) (by omega)).1
    unfold tzn at e
    have k0 : 0 ≤ k := by
      by_cases q : x3 ≤ 10
      · rw [if_pos q] at e; omega
      · rw [if_neg q] at e; have tn := tzn_b d ((x3 - 3) / 8 + 2) (by omega); omega
    -- one digit is written, then the rest
    have step : (∀ Q1 : Qt, T_at gC 546 32 [some (vR 13 313), some (vI r), some (vI n'), some (vI ((x3 - 3) / 8 + 2)), some (vI (k - 1))] [] n (st h 350 (T.1 + k) (17 + 32 * ((x3 - 3) % 8))) Q1 → T_at gC 546 32 [some (vR 13 313), some (vI r), some (vI n'), some (vI x3), some (vI k)] [] n h Q1) := by
      intro Q1 z
      refine blk (md := true) [4, 32] 99 GC FC rfl k546 ?_
      simp -implicitDefEqProofs only [r_iconst, r_bipush, r_sipush, r_ldc, r_ldc_w, r_lconst, r_ldc2_w, r_aconst_null, r_iload, r_iload_n, r_lload, r_lload_n, r_aload, r_aload_n, r_istore, r_istore_n, r_lstore, r_lstore_n, r_astore, r_astore_n, r_iinc, r_iadd, r_iaddW, r_isub, r_isubW, r_imul, r_imulW, r_ladd, r_laddW, r_lsub, r_lsubW, r_lmul, r_lmulW, r_iand, r_ior, r_ishl, r_ishr, r_iushr, r_land, r_lor, r_lshl, r_lshr, r_lushr, r_idiv, r_irem, r_ldiv, r_lrem, r_lcmp, r_ineg, r_i2l, r_l2i, r_i2b, r_i2s, r_i2c, r_dup, r_pop, r_dup_x1, r_dup_x2, r_dup2, r_dup2L, r_icmp_eq, r_icmp_ne, r_icmp_lt, r_icmp_ge, r_icmp_gt, r_icmp_le, r_if_eq, r_if_ne, r_if_lt, r_if_ge, r_if_gt, r_if_le, r_acmp_eq, r_acmp_ne, r_ifnull, r_ifnonnull, r_goto, r_nop, r_tsw, r_lsw, r_getfield, r_getfinal, r_putfield, r_getstaticL, r_getstaticR, r_iaload, r_baload, r_saload, r_laload, r_aaload, r_aaloadM, r_iastore, r_bastore, r_zastore, r_sastore, r_lastore, r_aastore, r_alen, r_new, r_newarray, r_anewarray, r_invV, r_invI, r_objI, r_invS, r_acp, r_ireturn, r_zreturn, r_lreturn, r_return, r_areturn, r_athrow, ↓e_pI, ↓e_pL, ↓e_pR, ↓e_lg0, ↓e_lg1, ↓e_tk0, ↓e_tkI0, ↓e_tkI1, ↓e_tkI2, ↓e_tkI3, ↓e_tkI4, ↓e_tkL, ↓e_tkR0_0, ↓e_tkR0_1, ↓e_tkR1_0, ↓e_tkR1_1, ↓e_tkR2_0, ↓e_tkR2_1, ↓e_tkR3_0, ↓e_tkR3_1, ↓e_tkR4_0, ↓e_tkR4_1, ↓e_tkR5_0, ↓e_tkR5_1, ↓e_tkR6_0, ↓e_tkR6_1, ↓e_tkR7_0, ↓e_tkR7_1, ↓e_tkR8_0, ↓e_tkR8_1, ↓e_tkR9_0, ↓e_tkR9_1, ↓e_tkR10_0, ↓e_tkR10_1, ↓e_tkR11_0, ↓e_tkR11_1, ↓e_tkR12_0, ↓e_tkR12_1, ↓e_tkR13_0, ↓e_tkR13_1, ↓e_tkR14_0, ↓e_tkR14_1, ↓e_tkR15_0, ↓e_tkR15_1, ↓e_tkR16_0, ↓e_tkR16_1, ↓e_tkR17_0, ↓e_tkR17_1, ↓e_tkR39_0, ↓e_tkR39_1, ↓e_tkR40_0, ↓e_tkR40_1, ↓e_tkR41_0, ↓e_tkR41_1, ↓e_tkR42_0, ↓e_tkR42_1, ↓e_tkR43_0, ↓e_tkR43_1, ↓e_tkR44_0, ↓e_tkR44_1, ↓e_tkR45_0, ↓e_tkR45_1, ↓e_tkR46_0, ↓e_tkR46_1, ↓e_tkR47_0, ↓e_tkR47_1, ↓e_tkR48_0, ↓e_tkR48_1, ↓e_pv0, ↓e_pv1, ↓e_pv2, ↓e_pv3, ↓e_pv5, ↓e_pvR, ↓e_tsw0, ↓e_tsw1, ↓e_lsw0, ↓e_lsw1, e_kq100, e_kq0, e_kq3, e_kq5, e_kqR0, e_kqR1, e_kqR2, e_kqR3, e_kqR4, e_kqR5, e_kqR6, e_kqR7, e_kqR8, e_kqR9, e_kqR10, e_kqR11, e_kqR12, e_kqR13, e_kqR14, e_kqR15, e_kqR16, e_kqR17, e_kqR39, e_kqR40, e_kqR41, e_kqR42, e_kqR43, e_kqR44, e_kqR45, e_kqR46, e_kqR47, e_kqR48, e_st0I, e_st0R, e_st0L, e_st1N, e_st1I, e_st1L, e_st1R, e_st2, e_wd0, e_wdI, e_wdL, e_wdR, e_c1I, e_c1R, e_gv0, e_gv1, e_gv2, e_gv3, e_gv4, e_gv5, e_gvR0, e_gvR1, e_gvR2, e_gvR3, e_gvR4, e_gvR5, e_gvR6, e_gvR7, e_gvR8, e_gvR9, e_gvR10, e_gvR11, e_gvR12, e_gvR13, e_gvR14, e_gvR15, e_gvR16, e_gvR17, e_gvR39, e_gvR40, e_gvR41, e_gvR42, e_gvR43, e_gvR44, e_gvR45, e_gvR46, e_gvR47, e_gvR48, e_kX0, e_kX1, e_kVv, e_kVx, e_kIv, e_kIx, e_kLv, e_kLx, e_kRv, e_kRx, e_thr, e_lk1, e_ic0, e_ic1, e_jm, st_ap, clr_ap, e_lceq, e_lclt, e_lcgt, nn, ↓reduceIte, Nat.reduceDiv, Nat.reduceMod, Nat.reduceMul, Nat.reduceAdd, Nat.reduceEqDiff, Nat.reduceLeDiff, Int.reduceNatCast, Int.cast_ofNat_Int, Int.reduceSub, Int.reduceMul, Int.reduceNeg, Int.reduceAdd, Int.reduceLE, Int.reduceLT, Int.reduceEq, Int.reduceNe, true_and, and_true, true_or, and_self, ne_eq, not_false_eq_true, Bool.false_eq_true, reduceCtorEq, rd_l1, rd_l2, rd_l3, rd_l4, rd_l5, rd_l6, rd_l7, rd_l8, rd_l9, SB, rd_ge, i2b_2, false_and, and_false, not_true_eq_false, l546_0, l546_4, l546_25, l546_32, l546_75, s546_0, s546_4, s546_25, s546_32, s546_75, zC_18, zC_20, zC_21, zC_22, zC_23, zC_25, zC_26, zC_253, zC_254, zC_256, zC_257, zC_259, zC_260, zC_262, zC_263, zC_265, zC_266, zC_268, zC_269, zC_271, zC_272, zC_274, zC_275, zC_278, zC_279, zC_280, zC_281, zC_282, zC_284, zC_285, zC_287, zC_288, zC_290, zC_291, zC_293, zC_294, zC_296, zC_297, zC_299, zC_300, zC_302, zC_303, zC_304, zC_305, zC_306, zC_307, zC_308, zC_309, zC_310, zC_311, zC_312, zC_315, zC_316, zC_317, zC_319, zC_320, zC_321, zC_323, zC_324, zC_325, zC_327, zC_328, zC_329, zC_331, zC_332, zC_333, zC_335, zC_336, zC_337, zC_339, zC_340, zC_341, zC_343, zC_344, zC_345, zC_347, zC_348, zC_349, zC_350, zC_351, zC_352, zC_353, zC_354, zC_355, zC_356, zC_357, zC_358, zC_359, zC_361, zC_362, zC_363, zC_364, zC_367, zC_368, zC_369, zC_370, zC_371, zC_372, zC_373, zC_374, zC_375, zC_376, zC_378, zC_380, zC_381, zC_383, zC_384, zC_386, zC_387, zC_389, zC_390, zC_391, zC_392, zC_393, zC_394, zC_395, zC_396, zC_397, zC_398, zC_400, zC_402, zC_403, zC_405, zC_407, zC_409, zC_411, zC_413, zC_415, zC_417, zC_420, zC_421, zC_422, zC_423, zC_424, zC_425, zC_427, zC_429, zC_431, zC_433, zC_436, zC_437, zC_438, zC_439, zC_440, zC_441, zC_442, zC_443, zC_444, zC_445, zC_447, zC_448, zC_450, zC_451, zC_453, zC_454, zC_455, zC_456, zC_457, zC_458, zC_460, zC_461, zC_462, zC_463, zC_464, zC_465, zC_466, zC_467, zC_468, zC_469, zC_471, zC_473, zC_474, zC_476, zC_477, zC_478, zC_479, zC_480, zC_481, zC_482, zC_483, zC_484, zC_485, zC_487, zC_489, zC_490, zC_491, zC_493, zC_495, zC_497, zC_499]
      rw [e0, td, tm, iv, show k + -1 = k - 1 by omega]
      exact iteN (by omega) ⟨(by first | omega | (constructor <;> omega)), (by first | omega | (constructor <;> omega)), (by first | omega | (constructor <;> omega)), (by first | omega | (constructor <;> omega)), (by first | omega | (constructor <;> omega)), (by first | omega | (constructor <;> omega)), (by first | omega | (constructor <;> omega)), (by first | omega | (constructor <;> omega)), z⟩
    refine step Q ?_
    by_cases q : x3 ≤ 10
    · rw [if_pos q] at e
      rw [show k - 1 = -1 by omega]
      refine fin _ _ (fun i i0 i1 => ?_) (fun a j ne => ?_)
      · have i0 : i = 0 := by omega
        rw [i0, show k = 0 by omega, st_eq]
        unfold tzd
        rw [if_pos q]
        show _ = 17 + 32 * ufn T.2.2 T.1 ((x3 - 3) % 8) (T.1 + 0)
        rw [Int.add_zero, ufn_e]
      · by_cases g : a = 350
        · rw [g, st_nj (by omega)]
        · rw [st_na g]
    · rw [if_neg q] at e
      have tn := tzn_b d ((x3 - 3) / 8 + 2) (by omega)
      refine ih ((x3 - 3) / 8 + 2) (k - 1) _ (by omega) (by omega) (by omega) (by omega) (by rw [st_na (by omega)]; exact e0) ?_
      intro h1 y3 D F
      refine fin h1 y3 (fun i i0 i1 => ?_) (fun a j ne => ?_)
      · unfold tzd
        rw [if_neg q]
        have tn2 := tzd_n (T := T) d ((x3 - 3) / 8 + 2)
        show _ = 17 + 32 * ufn (tzd d ((x3 - 3) / 8 + 2) T).2.2 (tzd d ((x3 - 3) / 8 + 2) T).1 ((x3 - 3) % 8) (T.1 + i)
        by_cases g : i = k
        · rw [show T.1 + i = (tzd d ((x3 - 3) / 8 + 2) T).1 by omega, ufn_e, F 350 _ (by omega), show (tzd d ((x3 - 3) / 8 + 2) T).1 = T.1 + k by omega, st_eq]
        · rw [ufn_n (by omega)]; exact D i i0 (by omega)
      · rw [F a j (by omega)]
        by_cases g : a = 350
        · rw [g, st_nj (by omega)]
        · rw [st_na g]
theorem tzd_o {T : TK} : ∀ (d : Nat) (r k : Int), 3 ≤ r → k < T.1 → (tzd d r T).2.1 k = T.2.1 k ∧ (tzd d r T).2.2 k = T.2.2 k := by
  intro d
  induction d with
  | zero => intro r k _ _; exact ⟨rfl, rfl⟩
  | succ d ih =>
    intro r k r0 kt
    unfold tzd
    by_cases q : r ≤ 10
    · rw [if_pos q]
      show ufn T.2.1 T.1 17 k = _ ∧ ufn T.2.2 T.1 ((r - 3) % 8) k = _
      rw [ufn_n (by omega), ufn_n (by omega)]; exact ⟨rfl, rfl⟩
    · rw [if_neg q]
      have e := tzd_n (T := T) d ((r - 3) / 8 + 2)
      have b := tzn_b d ((r - 3) / 8 + 2) (by omega)
      show ufn (tzd d ((r - 3) / 8 + 2) T).2.1 (tzd d ((r - 3) / 8 + 2) T).1 17 k = _ ∧ ufn (tzd d ((r - 3) / 8 + 2) T).2.2 (tzd d ((r - 3) / 8 + 2) T).1 ((r - 3) % 8) k = _
      rw [ufn_n (by omega), ufn_n (by omega)]
      exact ih _ k (by omega) kt
theorem tzd_c {T : TK} (t0 : 0 ≤ T.1) : ∀ (d : Nat) (r u : Int), 3 ≤ r → cno (tzd d r T).2.1 u (tzd d r T).1.toNat = cno T.2.1 u T.1.toNat + if u = 17 then tzn d r else 0 := by
  intro d
  induction d with
  | zero => intro r u _; show _ = _ + (if u = 17 then (0 : Int) else 0); rw [ite_self, Int.add_zero]; rfl
  | succ d ih =>
    intro r u r0
    unfold tzd tzn
    by_cases q : r ≤ 10
    · rw [if_pos q, if_pos q, cno_p t0]
      by_cases g : u = 17
      · rw [if_pos g, if_pos g.symm]
      · rw [if_neg g, if_neg (fun z => g z.symm)]
    · have e := tzd_n (T := T) d ((r - 3) / 8 + 2)
      have b := tzn_b d ((r - 3) / 8 + 2) (by omega)
      rw [if_neg q, if_neg q, cno_p (by omega), ih _ u (by omega)]
      by_cases g : u = 17
      · rw [if_pos g, if_pos g.symm, if_pos g]; omega
      · rw [if_neg g, if_neg (fun z => g z.symm), if_neg g]; omega
/-- addRun (546) -/
theorem c_addRun {T : TK} {r : Int} (G : TKG T) (H : HT T h) (r0 : 3 ≤ r ∧ r ≤ 704) (tb : T.1 + r ≤ 704) : ∃ h1 : Mem, Ev gC 546 [vR 13 313, vI r] n h (.inl none) n h1 ∧ HT (tzd 5 r T) h1 ∧ Fz sqF h h1 := by
  obtain ⟨H1, H2⟩ := H
  have g0 := G.1
  have tn := tzn_b 5 r r0.1
  have te := tzd_n (T := T) 5 r
  have cr := cno_r (f := T.2.1) (v := 17) T.1.toNat
  have hv : h 347 17 = cno T.2.1 17 T.1.toNat := H2.2 17 (by omega) (by omega)
  have b4 : r ≤ Bd 5 := by have : Bd 5 = 37450 := rfl; omega
  have tp : 1 ≤ tzn 5 r := by
    show 1 ≤ (if r ≤ 10 then 1 else tzn 4 ((r - 3) / 8 + 2) + 1)
    by_cases q : r ≤ 10
    · rw [if_pos q]; omega
    · rw [if_neg q]; have := tzn_b 4 ((r - 3) / 8 + 2) (by omega); omega
  let hd : Mem := fun a j => if a = 350 ∧ T.1 ≤ j ∧ j < T.1 + tzn 5 r then 17 + 32 * (tzd 5 r T).2.2 j else h a j
  have hd_o : ∀ a j, ¬ (a = 350 ∧ T.1 ≤ j ∧ j < T.1 + tzn 5 r) → hd a j = h a j := fun a j c => if_neg c
  refine ⟨st (st hd 313 10 (T.1 + tzn 5 r)) 347 17 (h 347 17 + tzn 5 r), ?_, ⟨?_, ⟨fun k a b => ?_, fun u a b => ?_⟩⟩, Fz_st (Fz_st (fun a j c => hd_o a j (fun z => c (by unfold sqF; omega))) (by unfold sqF; omega)) (by unfold sqF; omega)⟩
  · intro Q hQ
    have k := c_arC (n := n) (h := h) (Q := Q) r0 5 1 r r0.1 b4 r0.2 (by omega) (by omega) ?_
    · refine T_go (md := true) [some (vR 13 313), some (vI r), none, none, none] [4, 32] 99 (by decide) rfl (Nat.le_of_ble_eq_true rfl) GC FC rfl k546 ?_
      simp -implicitDefEqProofs only [r_iconst, r_bipush, r_sipush, r_ldc, r_ldc_w, r_lconst, r_ldc2_w, r_aconst_null, r_iload, r_iload_n, r_lload, r_lload_n, r_aload, r_aload_n, r_istore, r_istore_n, r_lstore, r_lstore_n, r_astore, r_astore_n, r_iinc, r_iadd, r_iaddW, r_isub, r_isubW, r_imul, r_imulW, r_ladd, r_laddW, r_lsub, r_lsubW, r_lmul, r_lmulW, r_iand, r_ior, r_ishl, r_ishr, r_iushr, r_land, r_lor, r_lshl, r_lshr, r_lushr, r_idiv, r_irem, r_ldiv, r_lrem, r_lcmp, r_ineg, r_i2l, r_l2i, r_i2b, r_i2s, r_i2c, r_dup, r_pop, r_dup_x1, r_dup_x2, r_dup2, r_dup2L, r_icmp_eq, r_icmp_ne, r_icmp_lt, r_icmp_ge, r_icmp_gt, r_icmp_le, r_if_eq, r_if_ne, r_if_lt, r_if_ge, r_if_gt, r_if_le, r_acmp_eq, r_acmp_ne, r_ifnull, r_ifnonnull, r_goto, r_nop, r_tsw, r_lsw, r_getfield, r_getfinal, r_putfield, r_getstaticL, r_getstaticR, r_iaload, r_baload, r_saload, r_laload, r_aaload, r_aaloadM, r_iastore, r_bastore, r_zastore, r_sastore, r_lastore, r_aastore, r_alen, r_new, r_newarray, r_anewarray, r_invV, r_invI, r_objI, r_invS, r_acp, r_ireturn, r_zreturn, r_lreturn, r_return, r_areturn, r_athrow, ↓e_pI, ↓e_pL, ↓e_pR, ↓e_lg0, ↓e_lg1, ↓e_tk0, ↓e_tkI0, ↓e_tkI1, ↓e_tkI2, ↓e_tkI3, ↓e_tkI4, ↓e_tkL, ↓e_tkR0_0, ↓e_tkR0_1, ↓e_tkR1_0, ↓e_tkR1_1, ↓e_tkR2_0, ↓e_tkR2_1, ↓e_tkR3_0, ↓e_tkR3_1, ↓e_tkR4_0, ↓e_tkR4_1, ↓e_tkR5_0, ↓e_tkR5_1, ↓e_tkR6_0, ↓e_tkR6_1, ↓e_tkR7_0, ↓e_tkR7_1, ↓e_tkR8_0, ↓e_tkR8_1, ↓e_tkR9_0, ↓e_tkR9_1, ↓e_tkR10_0, ↓e_tkR10_1, ↓e_tkR11_0, ↓e_tkR11_1, ↓e_tkR12_0, ↓e_tkR12_1, ↓e_tkR13_0, ↓e_tkR13_1, ↓e_tkR14_0, ↓e_tkR14_1, ↓e_tkR15_0, ↓e_tkR15_1, ↓e_tkR16_0, ↓e_tkR16_1, ↓e_tkR17_0, ↓e_tkR17_1, ↓e_tkR39_0, ↓e_tkR39_1, ↓e_tkR40_0, ↓e_tkR40_1, ↓e_tkR41_0, ↓e_tkR41_1, ↓e_tkR42_0, ↓e_tkR42_1, ↓e_tkR43_0, ↓e_tkR43_1, ↓e_tkR44_0, ↓e_tkR44_1, ↓e_tkR45_0, ↓e_tkR45_1, ↓e_tkR46_0, ↓e_tkR46_1, ↓e_tkR47_0, ↓e_tkR47_1, ↓e_tkR48_0, ↓e_tkR48_1, ↓e_pv0, ↓e_pv1, ↓e_pv2, ↓e_pv3, ↓e_pv5, ↓e_pvR, ↓e_tsw0, ↓e_tsw1, ↓e_lsw0, ↓e_lsw1, e_kq100, e_kq0, e_kq3, e_kq5, e_kqR0, e_kqR1, e_kqR2, e_kqR3, e_kqR4, e_kqR5, e_kqR6, e_kqR7, e_kqR8, e_kqR9, e_kqR10, e_kqR11, e_kqR12, e_kqR13, e_kqR14, e_kqR15, e_kqR16, e_kqR17, e_kqR39, e_kqR40, e_kqR41, e_kqR42, e_kqR43, e_kqR44, e_kqR45, e_kqR46, e_kqR47, e_kqR48, e_st0I, e_st0R, e_st0L, e_st1N, e_st1I, e_st1L, e_st1R, e_st2, e_wd0, e_wdI, e_wdL, e_wdR, e_c1I, e_c1R, e_gv0, e_gv1, e_gv2, e_gv3, e_gv4, e_gv5, e_gvR0, e_gvR1, e_gvR2, e_gvR3, e_gvR4, e_gvR5, e_gvR6, e_gvR7, e_gvR8, e_gvR9, e_gvR10, e_gvR11, e_gvR12, e_gvR13, e_gvR14, e_gvR15, e_gvR16, e_gvR17, e_gvR39, e_gvR40, e_gvR41, e_gvR42, e_gvR43, e_gvR44, e_gvR45, e_gvR46, e_gvR47, e_gvR48, e_kX0, e_kX1, e_kVv, e_kVx, e_kIv, e_kIx, e_kLv, e_kLx, e_kRv, e_kRx, e_thr, e_lk1, e_ic0, e_ic1, e_jm, st_ap, clr_ap, e_lceq, e_lclt, e_lcgt, nn, ↓reduceIte, Nat.reduceDiv, Nat.reduceMod, Nat.reduceMul, Nat.reduceAdd, Nat.reduceEqDiff, Nat.reduceLeDiff, Int.reduceNatCast, Int.cast_ofNat_Int, Int.reduceSub, Int.reduceMul, Int.reduceNeg, Int.reduceAdd, Int.reduceLE, Int.reduceLT, Int.reduceEq, Int.reduceNe, true_and, and_true, true_or, and_self, ne_eq, not_false_eq_true, Bool.false_eq_true, reduceCtorEq, rd_l1, rd_l2, rd_l3, rd_l4, rd_l5, rd_l6, rd_l7, rd_l8, rd_l9, SB, rd_ge, i2b_2, false_and, and_false, not_true_eq_false, l546_0, l546_4, l546_25, l546_32, l546_75, s546_0, s546_4, s546_25, s546_32, s546_75, zC_18, zC_20, zC_21, zC_22, zC_23, zC_25, zC_26, zC_253, zC_254, zC_256, zC_257, zC_259, zC_260, zC_262, zC_263, zC_265, zC_266, zC_268, zC_269, zC_271, zC_272, zC_274, zC_275, zC_278, zC_279, zC_280, zC_281, zC_282, zC_284, zC_285, zC_287, zC_288, zC_290, zC_291, zC_293, zC_294, zC_296, zC_297, zC_299, zC_300, zC_302, zC_303, zC_304, zC_305, zC_306, zC_307, zC_308, zC_309, zC_310, zC_311, zC_312, zC_315, zC_316, zC_317, zC_319, zC_320, zC_321, zC_323, zC_324, zC_325, zC_327, zC_328, zC_329, zC_331, zC_332, zC_333, zC_335, zC_336, zC_337, zC_339, zC_340, zC_341, zC_343, zC_344, zC_345, zC_347, zC_348, zC_349, zC_350, zC_351, zC_352, zC_353, zC_354, zC_355, zC_356, zC_357, zC_358, zC_359, zC_361, zC_362, zC_363, zC_364, zC_367, zC_368, zC_369, zC_370, zC_371, zC_372, zC_373, zC_374, zC_375, zC_376, zC_378, zC_380, zC_381, zC_383, zC_384, zC_386, zC_387, zC_389, zC_390, zC_391, zC_392, zC_393, zC_394, zC_395, zC_396, zC_397, zC_398, zC_400, zC_402, zC_403, zC_405, zC_407, zC_409, zC_411, zC_413, zC_415, zC_417, zC_420, zC_421, zC_422, zC_423, zC_424, zC_425, zC_427, zC_429, zC_431, zC_433, zC_436, zC_437, zC_438, zC_439, zC_440, zC_441, zC_442, zC_443, zC_444, zC_445, zC_447, zC_448, zC_450, zC_451, zC_453, zC_454, zC_455, zC_456, zC_457, zC_458, zC_460, zC_461, zC_462, zC_463, zC_464, zC_465, zC_466, zC_467, zC_468, zC_469, zC_471, zC_473, zC_474, zC_476, zC_477, zC_478, zC_479, zC_480, zC_481, zC_482, zC_483, zC_484, zC_485, zC_487, zC_489, zC_490, zC_491, zC_493, zC_495, zC_497, zC_499]
      exact k
    · rw [show (1 : Int) - 1 + tzn 5 r = tzn 5 r by omega]
      refine c_arW (T := T) g0 (by omega) (by omega) 5 r (tzn 5 r - 1) h r0.1 r0.2 (by omega) (by omega) H1 ?_
      intro h1 y3 D F
      have eh : h1 = hd := by
        funext a j
        by_cases c : a = 350 ∧ T.1 ≤ j ∧ j < T.1 + tzn 5 r
        · have := D (j - T.1) (by omega) (by omega)
          rw [show T.1 + (j - T.1) = j by omega] at this
          show h1 a j = if a = 350 ∧ T.1 ≤ j ∧ j < T.1 + tzn 5 r then 17 + 32 * (tzd 5 r T).2.2 j else h a j
          rw [if_pos c, c.1]; exact this
        · rw [hd_o a j c]; exact F a j (by omega)
      rw [eh]
      have e1 : hd 313 10 = T.1 := (hd_o 313 10 (by omega)).trans H1
      have e2 : hd 347 17 = h 347 17 := hd_o 347 17 (by omega)
      refine blk (md := true) [4, 32] 99 GC FC rfl k546 ?_
      simp -implicitDefEqProofs only [r_iconst, r_bipush, r_sipush, r_ldc, r_ldc_w, r_lconst, r_ldc2_w, r_aconst_null, r_iload, r_iload_n, r_lload, r_lload_n, r_aload, r_aload_n, r_istore, r_istore_n, r_lstore, r_lstore_n, r_astore, r_astore_n, r_iinc, r_iadd, r_iaddW, r_isub, r_isubW, r_imul, r_imulW, r_ladd, r_laddW, r_lsub, r_lsubW, r_lmul, r_lmulW, r_iand, r_ior, r_ishl, r_ishr, r_iushr, r_land, r_lor, r_lshl, r_lshr, r_lushr, r_idiv, r_irem, r_ldiv, r_lrem, r_lcmp, r_ineg, r_i2l, r_l2i, r_i2b, r_i2s, r_i2c, r_dup, r_pop, r_dup_x1, r_dup_x2, r_dup2, r_dup2L, r_icmp_eq, r_icmp_ne, r_icmp_lt, r_icmp_ge, r_icmp_gt, r_icmp_le, r_if_eq, r_if_ne, r_if_lt, r_if_ge, r_if_gt, r_if_le, r_acmp_eq, r_acmp_ne, r_ifnull, r_ifnonnull, r_goto, r_nop, r_tsw, r_lsw, r_getfield, r_getfinal, r_putfield, r_getstaticL, r_getstaticR, r_iaload, r_baload, r_saload, r_laload, r_aaload, r_aaloadM, r_iastore, r_bastore, r_zastore, r_sastore, r_lastore, r_aastore, r_alen, r_new, r_newarray, r_anewarray, r_invV, r_invI, r_objI, r_invS, r_acp, r_ireturn, r_zreturn, r_lreturn, r_return, r_areturn, r_athrow, ↓e_pI, ↓e_pL, ↓e_pR, ↓e_lg0, ↓e_lg1, ↓e_tk0, ↓e_tkI0, ↓e_tkI1, ↓e_tkI2, ↓e_tkI3, ↓e_tkI4, ↓e_tkL, ↓e_tkR0_0, ↓e_tkR0_1, ↓e_tkR1_0, ↓e_tkR1_1, ↓e_tkR2_0, ↓e_tkR2_1, ↓e_tkR3_0, ↓e_tkR3_1, ↓e_tkR4_0, ↓e_tkR4_1, ↓e_tkR5_0, ↓e_tkR5_1, ↓e_tkR6_0, ↓e_tkR6_1, ↓e_tkR7_0, ↓e_tkR7_1, ↓e_tkR8_0, ↓e_tkR8_1, ↓e_tkR9_0, ↓e_tkR9_1, ↓e_tkR10_0, ↓e_tkR10_1, ↓e_tkR11_0, ↓e_tkR11_1, ↓e_tkR12_0, ↓e_tkR12_1, ↓e_tkR13_0, ↓e_tkR13_1, ↓e_tkR14_0, ↓e_tkR14_1, ↓e_tkR15_0, ↓e_tkR15_1, ↓e_tkR16_0, ↓e_tkR16_1, ↓e_tkR17_0, ↓e_tkR17_1, ↓e_tkR39_0, ↓e_tkR39_1, ↓e_tkR40_0, ↓e_tkR40_1, ↓e_tkR41_0, ↓e_tkR41_1, ↓e_tkR42_0, ↓e_tkR42_1, ↓e_tkR43_0, ↓e_tkR43_1, ↓e_tkR44_0, ↓e_tkR44_1, ↓e_tkR45_0, ↓e_tkR45_1, ↓e_tkR46_0, ↓e_tkR46_1, ↓e_tkR47_0, ↓e_tkR47_1, ↓e_tkR48_0, ↓e_tkR48_1, ↓e_pv0, ↓e_pv1, ↓e_pv2, ↓e_pv3, ↓e_pv5, ↓e_pvR, ↓e_tsw0, ↓e_tsw1, ↓e_lsw0, ↓e_lsw1, e_kq100, e_kq0, e_kq3, e_kq5, e_kqR0, e_kqR1, e_kqR2, e_kqR3, e_kqR4, e_kqR5, e_kqR6, e_kqR7, e_kqR8, e_kqR9, e_kqR10, e_kqR11, e_kqR12, e_kqR13, e_kqR14, e_kqR15, e_kqR16, e_kqR17, e_kqR39, e_kqR40, e_kqR41, e_kqR42, e_kqR43, e_kqR44, e_kqR45, e_kqR46, e_kqR47, e_kqR48, e_st0I, e_st0R, e_st0L, e_st1N, e_st1I, e_st1L, e_st1R, e_st2, e_wd0, e_wdI, e_wdL, e_wdR, e_c1I, e_c1R, e_gv0, e_gv1, e_gv2, e_gv3, e_gv4, e_gv5, e_gvR0, e_gvR1, e_gvR2, e_gvR3, e_gvR4, e_gvR5, e_gvR6, e_gvR7, e_gvR8, e_gvR9, e_gvR10, e_gvR11, e_gvR12, e_gvR13, e_gvR14, e_gvR15, e_gvR16, e_gvR17, e_gvR39, e_gvR40, e_gvR41, e_gvR42, e_gvR43, e_gvR44, e_gvR45, e_gvR46, e_gvR47, e_gvR48, e_kX0, e_kX1, e_kVv, e_kVx, e_kIv, e_kIx, e_kLv, e_kLx, e_kRv, e_kRx, e_thr, e_lk1, e_ic0, e_ic1, e_jm, st_ap, clr_ap, e_lceq, e_lclt, e_lcgt, nn, ↓reduceIte, Nat.reduceDiv, Nat.reduceMod, Nat.reduceMul, Nat.reduceAdd, Nat.reduceEqDiff, Nat.reduceLeDiff, Int.reduceNatCast, Int.cast_ofNat_Int, Int.reduceSub, Int.reduceMul, Int.reduceNeg, Int.reduceAdd, Int.reduceLE, Int.reduceLT, Int.reduceEq, Int.reduceNe, true_and, and_true, true_or, and_self, ne_eq, not_false_eq_true, Bool.false_eq_true, reduceCtorEq, rd_l1, rd_l2, rd_l3, rd_l4, rd_l5, rd_l6, rd_l7, rd_l8, rd_l9, SB, rd_ge, i2b_2, false_and, and_false, not_true_eq_false, l546_0, l546_4, l546_25, l546_32, l546_75, s546_0, s546_4, s546_25, s546_32, s546_75, zC_18, zC_20, zC_21, zC_22, zC_23, zC_25, zC_26, zC_253, zC_254, zC_256, zC_257, zC_259, zC_260, zC_262, zC_263, zC_265, zC_266, zC_268, zC_269, zC_271, zC_272, zC_274, zC_275, zC_278, zC_279, zC_280, zC_281, zC_282, zC_284, zC_285, zC_287, zC_288, zC_290, zC_291, zC_293, zC_294, zC_296, zC_297, zC_299, zC_300, zC_302, zC_303, zC_304, zC_305, zC_306, zC_307, zC_308, zC_309, zC_310, zC_311, zC_312, zC_315, zC_316, zC_317, zC_319, zC_320, zC_321, zC_323, zC_324, zC_325, zC_327, zC_328, zC_329, zC_331, zC_332, zC_333, zC_335, zC_336, zC_337, zC_339, zC_340, zC_341, zC_343, zC_344, zC_345, zC_347, zC_348, zC_349, zC_350, zC_351, zC_352, zC_353, zC_354, zC_355, zC_356, zC_357, zC_358, zC_359, zC_361, zC_362, zC_363, zC_364, zC_367, zC_368, zC_369, zC_370, zC_371, zC_372, zC_373, zC_374, zC_375, zC_376, zC_378, zC_380, zC_381, zC_383, zC_384, zC_386, zC_387, zC_389, zC_390, zC_391, zC_392, zC_393, zC_394, zC_395, zC_396, zC_397, zC_398, zC_400, zC_402, zC_403, zC_405, zC_407, zC_409, zC_411, zC_413, zC_415, zC_417, zC_420, zC_421, zC_422, zC_423, zC_424, zC_425, zC_427, zC_429, zC_431, zC_433, zC_436, zC_437, zC_438, zC_439, zC_440, zC_441, zC_442, zC_443, zC_444, zC_445, zC_447, zC_448, zC_450, zC_451, zC_453, zC_454, zC_455, zC_456, zC_457, zC_458, zC_460, zC_461, zC_462, zC_463, zC_464, zC_465, zC_466, zC_467, zC_468, zC_469, zC_471, zC_473, zC_474, zC_476, zC_477, zC_478, zC_479, zC_480, zC_481, zC_482, zC_483, zC_484, zC_485, zC_487, zC_489, zC_490, zC_491, zC_493, zC_495, zC_497, zC_499]
      rw [e1, e2]
      exact ⟨(by first | omega | (constructor <;> omega)), (by first | omega | (constructor <;> omega)), hQ⟩
  · rw [st_na (by omega), st_eq]; exact te.symm
  · show st (st hd 313 10 (T.1 + tzn 5 r)) 347 17 (h 347 17 + tzn 5 r) 350 k = _
    rw [st_na (by omega), st_na (by omega)]
    by_cases c : T.1 ≤ k
    · show (if (350 : Int) = 350 ∧ T.1 ≤ k ∧ k < T.1 + tzn 5 r then 17 + 32 * (tzd 5 r T).2.2 k else h 350 k) = _
      rw [if_pos ⟨rfl, c, by omega⟩]
      have g := (TKG_d G 5 r r0.1).2 k a b
      by_cases q : (tzd 5 r T).2.2 k = -1
      · exfalso
        have all : ∀ (d : Nat) (r k : Int), 3 ≤ r → T.1 ≤ k → k < (tzd d r T).1 → 0 ≤ (tzd d r T).2.2 k := by
          intro d
          induction d with
          | zero => intro r k _ a b; have b : k < T.1 := b; omega
          | succ d ih =>
            intro r k r0 a b
            unfold tzd at b ⊢
            by_cases q : r ≤ 10
            · rw [if_pos q] at b ⊢
              have b : k < T.1 + 1 := b
              show 0 ≤ ufn T.2.2 T.1 ((r - 3) % 8) k
              rw [show k = T.1 by omega, ufn_e]; omega
            · rw [if_neg q] at b ⊢
              have b : k < (tzd d ((r - 3) / 8 + 2) T).1 + 1 := b
              show 0 ≤ ufn (tzd d ((r - 3) / 8 + 2) T).2.2 (tzd d ((r - 3) / 8 + 2) T).1 ((r - 3) % 8) k
              by_cases g : k = (tzd d ((r - 3) / 8 + 2) T).1
              · rw [g, ufn_e]; omega
              · rw [ufn_n g]; exact ih _ k (by omega) a (by omega)
        have := all 5 r k r0.1 c b
        omega
      · rw [if_neg q]
    · rw [hd_o 350 k (by omega)]
      have o := tzd_o (T := T) 5 r k r0.1 (by omega)
      rw [o.1, o.2]
      exact H2.1 k a (by omega)
  · show st (st hd 313 10 (T.1 + tzn 5 r)) 347 17 (h 347 17 + tzn 5 r) 347 u = _
    rw [tzd_c g0 5 r u r0.1]
    by_cases c : u = 17
    · rw [c, st_eq, if_pos rfl, hv]
    · rw [st_nj c, if_neg c, st_na (by omega), hd_o 347 u (by omega), Int.add_zero]
      exact H2.2 u a b
end
