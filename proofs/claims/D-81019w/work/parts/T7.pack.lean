set_option maxRecDepth 100000
def pkC (a j : Int) : Prop := coC a j ∨ enC a j ∨ szC 428 a j ∨ hedC a j ∨ boF a j ∨ (492 ≤ a ∧ a < 500) ∨ bcC a j
def pkM (a j : Int) : Prop := coM a j ∨ enM a j ∨ pcM a j ∨ hedM a j ∨ a = 18 ∨ a = 19 ∨ ntM a j
/-- after a packing -/
def PPk (n m : Int) (h w : Mem) : Out → Int → Mem → Out → Int → Mem → Prop := fun o n1 h1 o' m1 w1 => (∃ x, o = .inl (some (vI x)) ∧ o' = .inl (some (vI x))) ∧ n1 = n ∧ m1 = m ∧ RR h1 w1 ∧ RE h1 w1 ∧ Fz pkC h h1 ∧ Fz pkM w w1
section
variable {A B : Qt → Prop} {Φ : Out → Int → Mem → Out → Int → Mem → Prop} {KL KM : Qt → Qt} {n m : Int} {h w : Mem}
/-- the stream, zeros, the length: the end of the house's pack (194@351) -/
theorem c_pend {M x2 x3 x4 x5 sz : Int} {L : List Int} (B0 : BG h 19 16000 L) (l0 : 12 ≤ (L.length : Int)) (es : h 428 1 = sz) (s0 : 0 ≤ sz ∧ sz ≤ 16000)
    (f0 : ∀ h1 : Mem, 16000 < ((L ++ slc (h 429) 0 sz.toNat ++ List.replicate (pdn (L ++ slc (h 429) 0 sz.toNat)) 0).length : Int) → Fz boF h h1 → J2 (fun Q => KL Q (.inl (some (vI 0))) n h1) B Φ)
    (f1 : ∀ h1 : Mem, ((L ++ slc (h 429) 0 sz.toNat ++ List.replicate (pdn (L ++ slc (h 429) 0 sz.toNat)) 0).length : Int) ≤ 16000 → h1 19 1 = (L ++ slc (h 429) 0 sz.toNat ++ List.replicate (pdn (L ++ slc (h 429) 0 sz.toNat)) 0).length → h1 19 2 = 0 → (∀ i : Int, 0 ≤ i → i < ((L ++ slc (h 429) 0 sz.toNat ++ List.replicate (pdn (L ++ slc (h 429) 0 sz.toNat)) 0).length : Int) → h1 20 i = adj (L ++ slc (h 429) 0 sz.toNat ++ List.replicate (pdn (L ++ slc (h 429) 0 sz.toNat)) 0) 8 (L ++ slc (h 429) 0 sz.toNat ++ List.replicate (pdn (L ++ slc (h 429) 0 sz.toNat)) 0).length i) → Fz boF h h1 → J2 (fun Q => KL Q (.inl (some (vI 1))) n h1) B Φ) :
    J2 (fun Q => T_at gC 194 351 [some (vR 27 418), some (vI M), some (vI x2), some (vI x3), some (vI x4), some (vI x5)] [] n h (KL Q)) B Φ := by
  obtain ⟨h1, e1, B1, F1⟩ := c_appG (n := n) (p := 428) (f := 0) (k := sz) (o := 19) (c := 16000) z19 (by omega) (by omega) (by omega) (by omega) (by omega) (by omega) (by rw [show ((gC.1 (428 + 1)).2 : Int) = 16000 by decide +kernel]; omega) B0
  rw [show h (428 + 1) = h 429 from rfl] at B1
  obtain ⟨h2, e2, B2, F2⟩ := c_padO (n := n) (h := h1) B1
  generalize eY : L ++ slc (h 429) 0 sz.toNat ++ List.replicate (pdn (L ++ slc (h 429) 0 sz.toNat)) 0 = Y at B2 f0 f1
  have lY : 12 ≤ (Y.length : Int) := by rw [← eY, List.length_append, List.length_append]; omega
  have F12 : Fz boF h h2 := Fz_tr (Fz_mo F1 (fun a j q => by unfold bgF at q; unfold boF; omega)) F2
  refine J_impL (fun Q hq => blk (md := true) [20, 82, 202, 294, 351] 99 GC FC rfl k194 hq) ?_
  simp -implicitDefEqProofs only [r_iconst, r_bipush, r_sipush, r_ldc, r_ldc_w, r_lconst, r_ldc2_w, r_aconst_null, r_iload, r_iload_n, r_lload, r_lload_n, r_aload, r_aload_n, r_istore, r_istore_n, r_lstore, r_lstore_n, r_astore, r_astore_n, r_iinc, r_iadd, r_iaddW, r_isub, r_isubW, r_imul, r_imulW, r_ladd, r_laddW, r_lsub, r_lsubW, r_lmul, r_lmulW, r_iand, r_ior, r_ishl, r_ishr, r_iushr, r_land, r_lor, r_lshl, r_lshr, r_lushr, r_idiv, r_irem, r_ldiv, r_lrem, r_lcmp, r_ineg, r_i2l, r_l2i, r_i2b, r_i2s, r_i2c, r_dup, r_pop, r_dup_x1, r_dup_x2, r_dup2, r_dup2L, r_icmp_eq, r_icmp_ne, r_icmp_lt, r_icmp_ge, r_icmp_gt, r_icmp_le, r_if_eq, r_if_ne, r_if_lt, r_if_ge, r_if_gt, r_if_le, r_acmp_eq, r_acmp_ne, r_ifnull, r_ifnonnull, r_goto, r_nop, r_tsw, r_lsw, r_getfield, r_getfinal, r_putfield, r_getstaticL, r_getstaticR, r_iaload, r_baload, r_saload, r_laload, r_aaload, r_aaloadM, r_iastore, r_bastore, r_zastore, r_sastore, r_lastore, r_aastore, r_alen, r_new, r_newarray, r_anewarray, r_invV, r_invI, r_objI, r_invS, r_acp, r_ireturn, r_zreturn, r_lreturn, r_return, r_areturn, r_athrow, ↓e_pI, ↓e_pL, ↓e_pR, ↓e_lg0, ↓e_lg1, ↓e_tk0, ↓e_tkI0, ↓e_tkI1, ↓e_tkI2, ↓e_tkI3, ↓e_tkI4, ↓e_tkL, ↓e_tkR0_0, ↓e_tkR0_1, ↓e_tkR1_0, ↓e_tkR1_1, ↓e_tkR2_0, ↓e_tkR2_1, ↓e_tkR3_0, ↓e_tkR3_1, ↓e_tkR4_0, ↓e_tkR4_1, ↓e_tkR5_0, ↓e_tkR5_1, ↓e_tkR6_0, ↓e_tkR6_1, ↓e_tkR7_0, ↓e_tkR7_1, ↓e_tkR8_0, ↓e_tkR8_1, ↓e_tkR9_0, ↓e_tkR9_1, ↓e_tkR10_0, ↓e_tkR10_1, ↓e_tkR11_0, ↓e_tkR11_1, ↓e_tkR12_0, ↓e_tkR12_1, ↓e_tkR13_0, ↓e_tkR13_1, ↓e_tkR14_0, ↓e_tkR14_1, ↓e_tkR15_0, ↓e_tkR15_1, ↓e_tkR16_0, ↓e_tkR16_1, ↓e_tkR17_0, ↓e_tkR17_1, ↓e_tkR39_0, ↓e_tkR39_1, ↓e_tkR40_0, ↓e_tkR40_1, ↓e_tkR41_0, ↓e_tkR41_1, ↓e_tkR42_0, ↓e_tkR42_1, ↓e_tkR43_0, ↓e_tkR43_1, ↓e_tkR44_0, ↓e_tkR44_1, ↓e_tkR45_0, ↓e_tkR45_1, ↓e_tkR46_0, ↓e_tkR46_1, ↓e_tkR47_0, ↓e_tkR47_1, ↓e_tkR48_0, ↓e_tkR48_1, ↓e_pv0, ↓e_pv1, ↓e_pv2, ↓e_pv3, ↓e_pv5, ↓e_pvR, ↓e_tsw0, ↓e_tsw1, ↓e_lsw0, ↓e_lsw1, e_kq100, e_kq0, e_kq3, e_kq5, e_kqR0, e_kqR1, e_kqR2, e_kqR3, e_kqR4, e_kqR5, e_kqR6, e_kqR7, e_kqR8, e_kqR9, e_kqR10, e_kqR11, e_kqR12, e_kqR13, e_kqR14, e_kqR15, e_kqR16, e_kqR17, e_kqR39, e_kqR40, e_kqR41, e_kqR42, e_kqR43, e_kqR44, e_kqR45, e_kqR46, e_kqR47, e_kqR48, e_st0I, e_st0R, e_st0L, e_st1N, e_st1I, e_st1L, e_st1R, e_st2, e_wd0, e_wdI, e_wdL, e_wdR, e_c1I, e_c1R, e_gv0, e_gv1, e_gv2, e_gv3, e_gv4, e_gv5, e_gvR0, e_gvR1, e_gvR2, e_gvR3, e_gvR4, e_gvR5, e_gvR6, e_gvR7, e_gvR8, e_gvR9, e_gvR10, e_gvR11, e_gvR12, e_gvR13, e_gvR14, e_gvR15, e_gvR16, e_gvR17, e_gvR39, e_gvR40, e_gvR41, e_gvR42, e_gvR43, e_gvR44, e_gvR45, e_gvR46, e_gvR47, e_gvR48, e_kX0, e_kX1, e_kVv, e_kVx, e_kIv, e_kIx, e_kLv, e_kLx, e_kRv, e_kRx, e_thr, e_lk1, e_ic0, e_ic1, e_jm, st_ap, clr_ap, e_lceq, e_lclt, e_lcgt, nn, ↓reduceIte, Nat.reduceDiv, Nat.reduceMod, Nat.reduceMul, Nat.reduceAdd, Nat.reduceEqDiff, Nat.reduceLeDiff, Int.reduceNatCast, Int.cast_ofNat_Int, Int.reduceSub, Int.reduceMul, Int.reduceNeg, Int.reduceAdd, Int.reduceLE, Int.reduceLT, Int.reduceEq, Int.reduceNe, true_and, and_true, true_or, and_self, ne_eq, not_false_eq_true, Bool.false_eq_true, reduceCtorEq, rd_l1, rd_l2, rd_l3, rd_l4, rd_l5, rd_l6, rd_l7, rd_l8, rd_l9, SB, rd_ge, i2b_2, false_and, and_false, not_true_eq_false, l194_0, l194_10, l194_20, l194_45, l194_77, l194_79, l194_82, l194_97, l194_200, l194_202, l194_294, l194_317, l194_351, l194_398, s194_0, s194_10, s194_20, s194_45, s194_77, s194_79, s194_82, s194_97, s194_200, s194_202, s194_294, s194_317, s194_351, s194_398, zC_18, zC_20, zC_21, zC_22, zC_23, zC_25, zC_26, zC_253, zC_254, zC_256, zC_257, zC_259, zC_260, zC_262, zC_263, zC_265, zC_266, zC_268, zC_269, zC_271, zC_272, zC_274, zC_275, zC_278, zC_279, zC_280, zC_281, zC_282, zC_284, zC_285, zC_287, zC_288, zC_290, zC_291, zC_293, zC_294, zC_296, zC_297, zC_299, zC_300, zC_302, zC_303, zC_304, zC_305, zC_306, zC_307, zC_308, zC_309, zC_310, zC_311, zC_312, zC_315, zC_316, zC_317, zC_319, zC_320, zC_321, zC_323, zC_324, zC_325, zC_327, zC_328, zC_329, zC_331, zC_332, zC_333, zC_335, zC_336, zC_337, zC_339, zC_340, zC_341, zC_343, zC_344, zC_345, zC_347, zC_348, zC_349, zC_350, zC_351, zC_352, zC_353, zC_354, zC_355, zC_356, zC_357, zC_358, zC_359, zC_361, zC_362, zC_363, zC_364, zC_367, zC_368, zC_369, zC_370, zC_371, zC_372, zC_373, zC_374, zC_375, zC_376, zC_378, zC_380, zC_381, zC_383, zC_384, zC_386, zC_387, zC_389, zC_390, zC_391, zC_392, zC_393, zC_394, zC_395, zC_396, zC_397, zC_398, zC_400, zC_402, zC_403, zC_405, zC_407, zC_409, zC_411, zC_413, zC_415, zC_417, zC_420, zC_421, zC_422, zC_423, zC_424, zC_425, zC_427, zC_429, zC_431, zC_433, zC_436, zC_437, zC_438, zC_439, zC_440, zC_441, zC_442, zC_443, zC_444, zC_445, zC_447, zC_448, zC_450, zC_451, zC_453, zC_454, zC_455, zC_456, zC_457, zC_458, zC_460, zC_461, zC_462, zC_463, zC_464, zC_465, zC_466, zC_467, zC_468, zC_469, zC_471, zC_473, zC_474, zC_476, zC_477, zC_478, zC_479, zC_480, zC_481, zC_482, zC_483, zC_484, zC_485, zC_487, zC_489, zC_490, zC_491, zC_493, zC_495, zC_497, zC_499]
  rw [es]
  refine J_andL (Or.inr trivial) (J_LV e1 (J_andL (Or.inr trivial) (J_LV e2 (J_andL (Or.inr trivial) ?_))))
  rcases B2 with ⟨b1, b2, b3⟩ | ⟨b1, b2, b3⟩
  · obtain ⟨h3, e3, s3, c3, F3⟩ := c_set4O (n := n) (x := 8) (v := Y.length) b3 (by omega)
    rw [b3.1]
    refine J_posL b2 (J_andL (Or.inr trivial) (J_andL (Or.inr trivial) (J_LV e3 ?_)))
    exact f1 h3 b1 s3 (by rw [F3 _ _ (by show ¬ (_ = _); omega)]; exact b2) c3 (Fz_tr F12 (Fz_mo F3 (fun a j q => Or.inr q)))
  · refine J_negL (by omega) ?_
    exact f0 h2 b1 F12
/-- all entries (194@20 / 421) -/
theorem p_ins {β : Int → Int} {M lv hm c : Int} (R : RSB β h w) (S : SKT h) (E : ENQ β c h w) (B0 : BG h 426 16000 [])
    (fin : ∀ (h1 w1 : Mem) (P : List Int), EDY c c P h1 w1 → ENC c h1 w1 → BG h1 426 16000 P → PLn w1 P → byt P → (P.length : Int) ≤ 600000 → Fz enC h h1 → Fz enM w w1 → J2 (fun Q => T_at gC 194 20 [some (vR 27 418), some (vI M), some (vI lv), some (vI hm), some (vI c), none] [] n h1 (KL Q)) (fun Q => KM Q (.inl none) m w1) Φ) :
    J2 (fun Q => T_at gC 194 20 [some (vR 27 418), some (vI M), some (vI lv), some (vI hm), some (vI 0), none] [] n h (KL Q)) (fun Q => T gM 421 [vR 33 17, vI hm] m w (KM Q)) Φ := by
  obtain ⟨q1, q2, q3, q4, q5⟩ := id E
  have C0 : ENC c h (st w 17 29 0) := by
    refine ⟨q1, by rw [st_nj (by omega)]; exact q2, q3, fun e a b => ?_⟩
    obtain ⟨t1, t2, ⟨k, bk, t3, t4⟩, -, -⟩ := q4 e a b
    have t5 := (q5 e a b).2
    rw [st_na (by omega), st_na (by omega), st_na (by omega), st_na (by omega)]
    refine ⟨t1, t2, ⟨k, t3, ?_⟩, fun z => ?_⟩
    · obtain ⟨d1, d2, d3, d4, d5⟩ := R.2.1.1 k bk
      rw [t4]
      exact ⟨d1, d2, d3, by rw [st_na (by omega)]; exact d4, fun i i0 i1 => by rw [st_na (by omega)]; exact d5 i i0 i1⟩
    · have := t5 (by rw [← t1]; exact z)
      exact ⟨this.1, by rw [(q4 (e - 1) (by omega) (by omega)).1]; exact this.2⟩
  refine J_impR (fun Q hq => T_go (md := true) [some (vR 33 17), some (vI hm), none, none, none, none, none, none] [7, 119, 220, 268] 99 (by decide) rfl (Nat.le_of_ble_eq_true rfl) GM FM rfl k421 hq) ?_
  simp -implicitDefEqProofs only [r_iconst, r_bipush, r_sipush, r_ldc, r_ldc_w, r_lconst, r_ldc2_w, r_aconst_null, r_iload, r_iload_n, r_lload, r_lload_n, r_aload, r_aload_n, r_istore, r_istore_n, r_lstore, r_lstore_n, r_astore, r_astore_n, r_iinc, r_iadd, r_iaddW, r_isub, r_isubW, r_imul, r_imulW, r_ladd, r_laddW, r_lsub, r_lsubW, r_lmul, r_lmulW, r_iand, r_ior, r_ishl, r_ishr, r_iushr, r_land, r_lor, r_lshl, r_lshr, r_lushr, r_idiv, r_irem, r_ldiv, r_lrem, r_lcmp, r_ineg, r_i2l, r_l2i, r_i2b, r_i2s, r_i2c, r_dup, r_pop, r_dup_x1, r_dup_x2, r_dup2, r_dup2L, r_icmp_eq, r_icmp_ne, r_icmp_lt, r_icmp_ge, r_icmp_gt, r_icmp_le, r_if_eq, r_if_ne, r_if_lt, r_if_ge, r_if_gt, r_if_le, r_acmp_eq, r_acmp_ne, r_ifnull, r_ifnonnull, r_goto, r_nop, r_tsw, r_lsw, r_getfield, r_getfinal, r_putfield, r_getstaticL, r_getstaticR, r_iaload, r_baload, r_saload, r_laload, r_aaload, r_aaloadM, r_iastore, r_bastore, r_zastore, r_sastore, r_lastore, r_aastore, r_alen, r_new, r_newarray, r_anewarray, r_invV, r_invI, r_objI, r_invS, r_acp, r_ireturn, r_zreturn, r_lreturn, r_return, r_areturn, r_athrow, ↓e_pI, ↓e_pL, ↓e_pR, ↓e_lg0, ↓e_lg1, ↓e_tk0, ↓e_tkI0, ↓e_tkI1, ↓e_tkI2, ↓e_tkI3, ↓e_tkI4, ↓e_tkL, ↓e_tkR0_0, ↓e_tkR0_1, ↓e_tkR1_0, ↓e_tkR1_1, ↓e_tkR2_0, ↓e_tkR2_1, ↓e_tkR3_0, ↓e_tkR3_1, ↓e_tkR4_0, ↓e_tkR4_1, ↓e_tkR5_0, ↓e_tkR5_1, ↓e_tkR6_0, ↓e_tkR6_1, ↓e_tkR7_0, ↓e_tkR7_1, ↓e_tkR8_0, ↓e_tkR8_1, ↓e_tkR9_0, ↓e_tkR9_1, ↓e_tkR10_0, ↓e_tkR10_1, ↓e_tkR11_0, ↓e_tkR11_1, ↓e_tkR12_0, ↓e_tkR12_1, ↓e_tkR13_0, ↓e_tkR13_1, ↓e_tkR14_0, ↓e_tkR14_1, ↓e_tkR15_0, ↓e_tkR15_1, ↓e_tkR16_0, ↓e_tkR16_1, ↓e_tkR17_0, ↓e_tkR17_1, ↓e_tkR39_0, ↓e_tkR39_1, ↓e_tkR40_0, ↓e_tkR40_1, ↓e_tkR41_0, ↓e_tkR41_1, ↓e_tkR42_0, ↓e_tkR42_1, ↓e_tkR43_0, ↓e_tkR43_1, ↓e_tkR44_0, ↓e_tkR44_1, ↓e_tkR45_0, ↓e_tkR45_1, ↓e_tkR46_0, ↓e_tkR46_1, ↓e_tkR47_0, ↓e_tkR47_1, ↓e_tkR48_0, ↓e_tkR48_1, ↓e_pv0, ↓e_pv1, ↓e_pv2, ↓e_pv3, ↓e_pv5, ↓e_pvR, ↓e_tsw0, ↓e_tsw1, ↓e_lsw0, ↓e_lsw1, e_kq100, e_kq0, e_kq3, e_kq5, e_kqR0, e_kqR1, e_kqR2, e_kqR3, e_kqR4, e_kqR5, e_kqR6, e_kqR7, e_kqR8, e_kqR9, e_kqR10, e_kqR11, e_kqR12, e_kqR13, e_kqR14, e_kqR15, e_kqR16, e_kqR17, e_kqR39, e_kqR40, e_kqR41, e_kqR42, e_kqR43, e_kqR44, e_kqR45, e_kqR46, e_kqR47, e_kqR48, e_st0I, e_st0R, e_st0L, e_st1N, e_st1I, e_st1L, e_st1R, e_st2, e_wd0, e_wdI, e_wdL, e_wdR, e_c1I, e_c1R, e_gv0, e_gv1, e_gv2, e_gv3, e_gv4, e_gv5, e_gvR0, e_gvR1, e_gvR2, e_gvR3, e_gvR4, e_gvR5, e_gvR6, e_gvR7, e_gvR8, e_gvR9, e_gvR10, e_gvR11, e_gvR12, e_gvR13, e_gvR14, e_gvR15, e_gvR16, e_gvR17, e_gvR39, e_gvR40, e_gvR41, e_gvR42, e_gvR43, e_gvR44, e_gvR45, e_gvR46, e_gvR47, e_gvR48, e_kX0, e_kX1, e_kVv, e_kVx, e_kIv, e_kIx, e_kLv, e_kLx, e_kRv, e_kRx, e_thr, e_lk1, e_ic0, e_ic1, e_jm, st_ap, clr_ap, e_lceq, e_lclt, e_lcgt, nn, ↓reduceIte, Nat.reduceDiv, Nat.reduceMod, Nat.reduceMul, Nat.reduceAdd, Nat.reduceEqDiff, Nat.reduceLeDiff, Int.reduceNatCast, Int.cast_ofNat_Int, Int.reduceSub, Int.reduceMul, Int.reduceNeg, Int.reduceAdd, Int.reduceLE, Int.reduceLT, Int.reduceEq, Int.reduceNe, true_and, and_true, true_or, and_self, ne_eq, not_false_eq_true, Bool.false_eq_true, reduceCtorEq, rd_l1, rd_l2, rd_l3, rd_l4, rd_l5, rd_l6, rd_l7, rd_l8, rd_l9, SB, rd_ge, i2b_2, false_and, and_false, not_true_eq_false, l421_0, l421_7, l421_116, l421_117, l421_119, l421_148, l421_151, l421_198, l421_219, l421_220, l421_244, l421_264, l421_265, l421_268, l421_288, s421_0, s421_7, s421_116, s421_117, s421_119, s421_148, s421_151, s421_198, s421_219, s421_220, s421_244, s421_264, s421_265, s421_268, s421_288, zM_18, zM_19, zM_20, zM_21, zM_22, zM_23, zM_24, zM_25, zM_26, zM_27, zM_28, zM_29, zM_30, zM_31, zM_32, zM_33, zM_34, zM_35, zM_36, zM_37, zM_38, zM_39, zM_40, zM_41, zM_42, zM_43, zM_44, zM_45, zM_46, zM_47, zM_48, zM_49, zM_50, zM_51, zM_52, zM_53, zM_54, zM_55, zM_56, zM_57, zM_58, zM_59, zM_60, zM_61, zM_62, zM_63, zM_64, zM_65, zM_66, zM_67, zM_68, zM_69, zM_70, zM_71, zM_72, zM_73, zM_74, zM_75, zM_76, zM_77, zM_78, zM_79, zM_80, zM_81, zM_82, zM_83, zM_84, zM_85, zM_86, zM_87, zM_88, zM_89, zM_90, zM_91, zM_92, zM_93, zM_94, zM_95, zM_96, zM_97, zM_98, zM_99, zM_100, zM_101, zM_102, zM_103, zM_104, zM_105, zM_106, zM_107, zM_108, zM_109, zM_110, zM_111, zM_112, zM_113, zM_114, zM_115, zM_116, zM_117, zM_118, zM_119]
  refine lp (F := fun e => ∀ (h1 w1 : Mem) (P : List Int) (o3 o4 o6 o7 : Option V), EDY c e P h1 w1 → ENC c h1 w1 → BG h1 426 16000 P → PLn w1 P → byt P → (P.length : Int) ≤ 14000 * e → Fz enC h h1 → Fz enM w w1 → J2 (fun Q => T_at gC 194 20 [some (vR 27 418), some (vI M), some (vI lv), some (vI hm), some (vI e), none] [] n h1 (KL Q)) (fun Q => T_at gM 421 7 [some (vR 33 17), some (vI hm), some (vI e), o3, o4, none, o6, o7] [] m w1 (KM Q)) Φ) (b := 0) (n := c) q3.1 ?_ ?_ h (st w 17 29 0) [] _ _ _ _ ⟨fun i a b => by omega, fun i a b => (q4 i a b).2.2.2.2⟩ C0 B0 ⟨by rw [st_eq]; rfl, fun i hi => by simp at hi⟩ byt_0 (by simp) Fz_0 (Fz_st Fz_0 (Or.inr (Or.inl (Or.inr ⟨rfl, rfl⟩))))
  · intro e e0 e1 ih h1 w1 P o3 o4 o6 o7 D1 C1 B1 P1 bP lP F1 W1
    have fh : ∀ a j, (24 ≤ a ∧ a ≤ 275) ∨ a = 383 → h1 a j = h a j := fun a j q => F1 a j (fun z => by have := enC_r z; omega)
    have fw : ∀ a j, 52 ≤ a ∧ a ≤ 59 → w1 a j = w a j := fun a j q => W1 a j (fun z => by have := enM_r z; omega)
    have R1 : RSB β h1 w1 := RSB_co R (fun a j x y => fh a j (by omega)) (fun a j x y => fw a j (by omega))
    refine J_impL (fun Q hq => blk (md := true) [20, 82, 202, 294, 351] 99 GC FC rfl k194 hq) ?_
    simp -implicitDefEqProofs only [r_iconst, r_bipush, r_sipush, r_ldc, r_ldc_w, r_lconst, r_ldc2_w, r_aconst_null, r_iload, r_iload_n, r_lload, r_lload_n, r_aload, r_aload_n, r_istore, r_istore_n, r_lstore, r_lstore_n, r_astore, r_astore_n, r_iinc, r_iadd, r_iaddW, r_isub, r_isubW, r_imul, r_imulW, r_ladd, r_laddW, r_lsub, r_lsubW, r_lmul, r_lmulW, r_iand, r_ior, r_ishl, r_ishr, r_iushr, r_land, r_lor, r_lshl, r_lshr, r_lushr, r_idiv, r_irem, r_ldiv, r_lrem, r_lcmp, r_ineg, r_i2l, r_l2i, r_i2b, r_i2s, r_i2c, r_dup, r_pop, r_dup_x1, r_dup_x2, r_dup2, r_dup2L, r_icmp_eq, r_icmp_ne, r_icmp_lt, r_icmp_ge, r_icmp_gt, r_icmp_le, r_if_eq, r_if_ne, r_if_lt, r_if_ge, r_if_gt, r_if_le, r_acmp_eq, r_acmp_ne, r_ifnull, r_ifnonnull, r_goto, r_nop, r_tsw, r_lsw, r_getfield, r_getfinal, r_putfield, r_getstaticL, r_getstaticR, r_iaload, r_baload, r_saload, r_laload, r_aaload, r_aaloadM, r_iastore, r_bastore, r_zastore, r_sastore, r_lastore, r_aastore, r_alen, r_new, r_newarray, r_anewarray, r_invV, r_invI, r_objI, r_invS, r_acp, r_ireturn, r_zreturn, r_lreturn, r_return, r_areturn, r_athrow, ↓e_pI, ↓e_pL, ↓e_pR, ↓e_lg0, ↓e_lg1, ↓e_tk0, ↓e_tkI0, ↓e_tkI1, ↓e_tkI2, ↓e_tkI3, ↓e_tkI4, ↓e_tkL, ↓e_tkR0_0, ↓e_tkR0_1, ↓e_tkR1_0, ↓e_tkR1_1, ↓e_tkR2_0, ↓e_tkR2_1, ↓e_tkR3_0, ↓e_tkR3_1, ↓e_tkR4_0, ↓e_tkR4_1, ↓e_tkR5_0, ↓e_tkR5_1, ↓e_tkR6_0, ↓e_tkR6_1, ↓e_tkR7_0, ↓e_tkR7_1, ↓e_tkR8_0, ↓e_tkR8_1, ↓e_tkR9_0, ↓e_tkR9_1, ↓e_tkR10_0, ↓e_tkR10_1, ↓e_tkR11_0, ↓e_tkR11_1, ↓e_tkR12_0, ↓e_tkR12_1, ↓e_tkR13_0, ↓e_tkR13_1, ↓e_tkR14_0, ↓e_tkR14_1, ↓e_tkR15_0, ↓e_tkR15_1, ↓e_tkR16_0, ↓e_tkR16_1, ↓e_tkR17_0, ↓e_tkR17_1, ↓e_tkR39_0, ↓e_tkR39_1, ↓e_tkR40_0, ↓e_tkR40_1, ↓e_tkR41_0, ↓e_tkR41_1, ↓e_tkR42_0, ↓e_tkR42_1, ↓e_tkR43_0, ↓e_tkR43_1, ↓e_tkR44_0, ↓e_tkR44_1, ↓e_tkR45_0, ↓e_tkR45_1, ↓e_tkR46_0, ↓e_tkR46_1, ↓e_tkR47_0, ↓e_tkR47_1, ↓e_tkR48_0, ↓e_tkR48_1, ↓e_pv0, ↓e_pv1, ↓e_pv2, ↓e_pv3, ↓e_pv5, ↓e_pvR, ↓e_tsw0, ↓e_tsw1, ↓e_lsw0, ↓e_lsw1, e_kq100, e_kq0, e_kq3, e_kq5, e_kqR0, e_kqR1, e_kqR2, e_kqR3, e_kqR4, e_kqR5, e_kqR6, e_kqR7, e_kqR8, e_kqR9, e_kqR10, e_kqR11, e_kqR12, e_kqR13, e_kqR14, e_kqR15, e_kqR16, e_kqR17, e_kqR39, e_kqR40, e_kqR41, e_kqR42, e_kqR43, e_kqR44, e_kqR45, e_kqR46, e_kqR47, e_kqR48, e_st0I, e_st0R, e_st0L, e_st1N, e_st1I, e_st1L, e_st1R, e_st2, e_wd0, e_wdI, e_wdL, e_wdR, e_c1I, e_c1R, e_gv0, e_gv1, e_gv2, e_gv3, e_gv4, e_gv5, e_gvR0, e_gvR1, e_gvR2, e_gvR3, e_gvR4, e_gvR5, e_gvR6, e_gvR7, e_gvR8, e_gvR9, e_gvR10, e_gvR11, e_gvR12, e_gvR13, e_gvR14, e_gvR15, e_gvR16, e_gvR17, e_gvR39, e_gvR40, e_gvR41, e_gvR42, e_gvR43, e_gvR44, e_gvR45, e_gvR46, e_gvR47, e_gvR48, e_kX0, e_kX1, e_kVv, e_kVx, e_kIv, e_kIx, e_kLv, e_kLx, e_kRv, e_kRx, e_thr, e_lk1, e_ic0, e_ic1, e_jm, st_ap, clr_ap, e_lceq, e_lclt, e_lcgt, nn, ↓reduceIte, Nat.reduceDiv, Nat.reduceMod, Nat.reduceMul, Nat.reduceAdd, Nat.reduceEqDiff, Nat.reduceLeDiff, Int.reduceNatCast, Int.cast_ofNat_Int, Int.reduceSub, Int.reduceMul, Int.reduceNeg, Int.reduceAdd, Int.reduceLE, Int.reduceLT, Int.reduceEq, Int.reduceNe, true_and, and_true, true_or, and_self, ne_eq, not_false_eq_true, Bool.false_eq_true, reduceCtorEq, rd_l1, rd_l2, rd_l3, rd_l4, rd_l5, rd_l6, rd_l7, rd_l8, rd_l9, SB, rd_ge, i2b_2, false_and, and_false, not_true_eq_false, l194_0, l194_10, l194_20, l194_45, l194_77, l194_79, l194_82, l194_97, l194_200, l194_202, l194_294, l194_317, l194_351, l194_398, s194_0, s194_10, s194_20, s194_45, s194_77, s194_79, s194_82, s194_97, s194_200, s194_202, s194_294, s194_317, s194_351, s194_398, zC_18, zC_20, zC_21, zC_22, zC_23, zC_25, zC_26, zC_253, zC_254, zC_256, zC_257, zC_259, zC_260, zC_262, zC_263, zC_265, zC_266, zC_268, zC_269, zC_271, zC_272, zC_274, zC_275, zC_278, zC_279, zC_280, zC_281, zC_282, zC_284, zC_285, zC_287, zC_288, zC_290, zC_291, zC_293, zC_294, zC_296, zC_297, zC_299, zC_300, zC_302, zC_303, zC_304, zC_305, zC_306, zC_307, zC_308, zC_309, zC_310, zC_311, zC_312, zC_315, zC_316, zC_317, zC_319, zC_320, zC_321, zC_323, zC_324, zC_325, zC_327, zC_328, zC_329, zC_331, zC_332, zC_333, zC_335, zC_336, zC_337, zC_339, zC_340, zC_341, zC_343, zC_344, zC_345, zC_347, zC_348, zC_349, zC_350, zC_351, zC_352, zC_353, zC_354, zC_355, zC_356, zC_357, zC_358, zC_359, zC_361, zC_362, zC_363, zC_364, zC_367, zC_368, zC_369, zC_370, zC_371, zC_372, zC_373, zC_374, zC_375, zC_376, zC_378, zC_380, zC_381, zC_383, zC_384, zC_386, zC_387, zC_389, zC_390, zC_391, zC_392, zC_393, zC_394, zC_395, zC_396, zC_397, zC_398, zC_400, zC_402, zC_403, zC_405, zC_407, zC_409, zC_411, zC_413, zC_415, zC_417, zC_420, zC_421, zC_422, zC_423, zC_424, zC_425, zC_427, zC_429, zC_431, zC_433, zC_436, zC_437, zC_438, zC_439, zC_440, zC_441, zC_442, zC_443, zC_444, zC_445, zC_447, zC_448, zC_450, zC_451, zC_453, zC_454, zC_455, zC_456, zC_457, zC_458, zC_460, zC_461, zC_462, zC_463, zC_464, zC_465, zC_466, zC_467, zC_468, zC_469, zC_471, zC_473, zC_474, zC_476, zC_477, zC_478, zC_479, zC_480, zC_481, zC_482, zC_483, zC_484, zC_485, zC_487, zC_489, zC_490, zC_491, zC_493, zC_495, zC_497, zC_499]
    rw [C1.1]
    refine J_posL e1 ?_
    refine p_ent1 (KL := fun Q => kV (thr (KL Q)) _) ⟨β, R1⟩ (fun k a b => by rw [fh _ _ (by omega)]; exact S k a b) R1.1.2.1 C1 D1 ⟨e0, e1⟩ B1 P1 bP lP ?_
    intro h2 w2 P' o3 o4 o6 o7 C2 D2 B2 P2 bP2 lP2 F2 W2
    try simp only [e_kVv]
    refine J_andL (by unfold i32; omega) ?_
    exact ih h2 w2 P' _ _ _ _ D2 C2 B2 P2 bP2 lP2 (Fz_tr F1 F2) (Fz_tr W1 W2)
  · intro h1 w1 P o3 o4 o6 o7 D1 C1 B1 P1 bP lP F1 W1
    refine J_impR (fun Q hq => blk (md := true) [7, 119, 220, 268] 99 GM FM rfl k421 hq) ?_
    simp -implicitDefEqProofs only [r_iconst, r_bipush, r_sipush, r_ldc, r_ldc_w, r_lconst, r_ldc2_w, r_aconst_null, r_iload, r_iload_n, r_lload, r_lload_n, r_aload, r_aload_n, r_istore, r_istore_n, r_lstore, r_lstore_n, r_astore, r_astore_n, r_iinc, r_iadd, r_iaddW, r_isub, r_isubW, r_imul, r_imulW, r_ladd, r_laddW, r_lsub, r_lsubW, r_lmul, r_lmulW, r_iand, r_ior, r_ishl, r_ishr, r_iushr, r_land, r_lor, r_lshl, r_lshr, r_lushr, r_idiv, r_irem, r_ldiv, r_lrem, r_lcmp, r_ineg, r_i2l, r_l2i, r_i2b, r_i2s, r_i2c, r_dup, r_pop, r_dup_x1, r_dup_x2, r_dup2, r_dup2L, r_icmp_eq, r_icmp_ne, r_icmp_lt, r_icmp_ge, r_icmp_gt, r_icmp_le, r_if_eq, r_if_ne, r_if_lt, r_if_ge, r_if_gt, r_if_le, r_acmp_eq, r_acmp_ne, r_ifnull, r_ifnonnull, r_goto, r_nop, r_tsw, r_lsw, r_getfield, r_getfinal, r_putfield, r_getstaticL, r_getstaticR, r_iaload, r_baload, r_saload, r_laload, r_aaload, r_aaloadM, r_iastore, r_bastore, r_zastore, r_sastore, r_lastore, r_aastore, r_alen, r_new, r_newarray, r_anewarray, r_invV, r_invI, r_objI, r_invS, r_acp, r_ireturn, r_zreturn, r_lreturn, r_return, r_areturn, r_athrow, ↓e_pI, ↓e_pL, ↓e_pR, ↓e_lg0, ↓e_lg1, ↓e_tk0, ↓e_tkI0, ↓e_tkI1, ↓e_tkI2, ↓e_tkI3, ↓e_tkI4, ↓e_tkL, ↓e_tkR0_0, ↓e_tkR0_1, ↓e_tkR1_0, ↓e_tkR1_1, ↓e_tkR2_0, ↓e_tkR2_1, ↓e_tkR3_0, ↓e_tkR3_1, ↓e_tkR4_0, ↓e_tkR4_1, ↓e_tkR5_0, ↓e_tkR5_1, ↓e_tkR6_0, ↓e_tkR6_1, ↓e_tkR7_0, ↓e_tkR7_1, ↓e_tkR8_0, ↓e_tkR8_1, ↓e_tkR9_0, ↓e_tkR9_1, ↓e_tkR10_0, ↓e_tkR10_1, ↓e_tkR11_0, ↓e_tkR11_1, ↓e_tkR12_0, ↓e_tkR12_1, ↓e_tkR13_0, ↓e_tkR13_1, ↓e_tkR14_0, ↓e_tkR14_1, ↓e_tkR15_0, ↓e_tkR15_1, ↓e_tkR16_0, ↓e_tkR16_1, ↓e_tkR17_0, ↓e_tkR17_1, ↓e_tkR39_0, ↓e_tkR39_1, ↓e_tkR40_0, ↓e_tkR40_1, ↓e_tkR41_0, ↓e_tkR41_1, ↓e_tkR42_0, ↓e_tkR42_1, ↓e_tkR43_0, ↓e_tkR43_1, ↓e_tkR44_0, ↓e_tkR44_1, ↓e_tkR45_0, ↓e_tkR45_1, ↓e_tkR46_0, ↓e_tkR46_1, ↓e_tkR47_0, ↓e_tkR47_1, ↓e_tkR48_0, ↓e_tkR48_1, ↓e_pv0, ↓e_pv1, ↓e_pv2, ↓e_pv3, ↓e_pv5, ↓e_pvR, ↓e_tsw0, ↓e_tsw1, ↓e_lsw0, ↓e_lsw1, e_kq100, e_kq0, e_kq3, e_kq5, e_kqR0, e_kqR1, e_kqR2, e_kqR3, e_kqR4, e_kqR5, e_kqR6, e_kqR7, e_kqR8, e_kqR9, e_kqR10, e_kqR11, e_kqR12, e_kqR13, e_kqR14, e_kqR15, e_kqR16, e_kqR17, e_kqR39, e_kqR40, e_kqR41, e_kqR42, e_kqR43, e_kqR44, e_kqR45, e_kqR46, e_kqR47, e_kqR48, e_st0I, e_st0R, e_st0L, e_st1N, e_st1I, e_st1L, e_st1R, e_st2, e_wd0, e_wdI, e_wdL, e_wdR, e_c1I, e_c1R, e_gv0, e_gv1, e_gv2, e_gv3, e_gv4, e_gv5, e_gvR0, e_gvR1, e_gvR2, e_gvR3, e_gvR4, e_gvR5, e_gvR6, e_gvR7, e_gvR8, e_gvR9, e_gvR10, e_gvR11, e_gvR12, e_gvR13, e_gvR14, e_gvR15, e_gvR16, e_gvR17, e_gvR39, e_gvR40, e_gvR41, e_gvR42, e_gvR43, e_gvR44, e_gvR45, e_gvR46, e_gvR47, e_gvR48, e_kX0, e_kX1, e_kVv, e_kVx, e_kIv, e_kIx, e_kLv, e_kLx, e_kRv, e_kRx, e_thr, e_lk1, e_ic0, e_ic1, e_jm, st_ap, clr_ap, e_lceq, e_lclt, e_lcgt, nn, ↓reduceIte, Nat.reduceDiv, Nat.reduceMod, Nat.reduceMul, Nat.reduceAdd, Nat.reduceEqDiff, Nat.reduceLeDiff, Int.reduceNatCast, Int.cast_ofNat_Int, Int.reduceSub, Int.reduceMul, Int.reduceNeg, Int.reduceAdd, Int.reduceLE, Int.reduceLT, Int.reduceEq, Int.reduceNe, true_and, and_true, true_or, and_self, ne_eq, not_false_eq_true, Bool.false_eq_true, reduceCtorEq, rd_l1, rd_l2, rd_l3, rd_l4, rd_l5, rd_l6, rd_l7, rd_l8, rd_l9, SB, rd_ge, i2b_2, false_and, and_false, not_true_eq_false, l421_0, l421_7, l421_116, l421_117, l421_119, l421_148, l421_151, l421_198, l421_219, l421_220, l421_244, l421_264, l421_265, l421_268, l421_288, s421_0, s421_7, s421_116, s421_117, s421_119, s421_148, s421_151, s421_198, s421_219, s421_220, s421_244, s421_264, s421_265, s421_268, s421_288, zM_18, zM_19, zM_20, zM_21, zM_22, zM_23, zM_24, zM_25, zM_26, zM_27, zM_28, zM_29, zM_30, zM_31, zM_32, zM_33, zM_34, zM_35, zM_36, zM_37, zM_38, zM_39, zM_40, zM_41, zM_42, zM_43, zM_44, zM_45, zM_46, zM_47, zM_48, zM_49, zM_50, zM_51, zM_52, zM_53, zM_54, zM_55, zM_56, zM_57, zM_58, zM_59, zM_60, zM_61, zM_62, zM_63, zM_64, zM_65, zM_66, zM_67, zM_68, zM_69, zM_70, zM_71, zM_72, zM_73, zM_74, zM_75, zM_76, zM_77, zM_78, zM_79, zM_80, zM_81, zM_82, zM_83, zM_84, zM_85, zM_86, zM_87, zM_88, zM_89, zM_90, zM_91, zM_92, zM_93, zM_94, zM_95, zM_96, zM_97, zM_98, zM_99, zM_100, zM_101, zM_102, zM_103, zM_104, zM_105, zM_106, zM_107, zM_108, zM_109, zM_110, zM_111, zM_112, zM_113, zM_114, zM_115, zM_116, zM_117, zM_118, zM_119]
    rw [C1.2.1]
    refine J_negR (by omega) ?_
    exact fin h1 w1 P D1 C1 B1 P1 bP (by omega) F1 W1
theorem pkC_r {a j : Int} (q : pkC a j) : ¬ (24 ≤ a ∧ a ≤ 275) ∧ ¬ (a = 383) ∧ ¬ (a = 23) := by
  rcases q with q | q | q | q | q | q | q
  · unfold coC at q; omega
  · have := enC_r q; omega
  · unfold szC pcC wrC at q; omega
  · unfold hedC seC bgF at q; omega
  · unfold boF at q; omega
  · omega
  · unfold bcC at q; omega
theorem pkM_r {a j : Int} (q : pkM a j) : ¬ (52 ≤ a ∧ a ≤ 59) := by
  rcases q with q | q | q | q | q | q | q
  · unfold coM at q; omega
  · have := enM_r q; omega
  · unfold pcM at q; omega
  · unfold hedM omM at q; omega
  · omega
  · omega
  · unfold ntM at q; omega
/-- from the gathering on (194 / 416 from 418 on) -/
theorem p_pk {β : Int → Int} {M rw' lv hm nf : Int} (R : RSB β h w) (RW : RR h w) (RE0 : RE h w) (MK : MKC h) (S : SKT h) (M0 : 1 ≤ M ∧ M ≤ 15) (r0 : 0 ≤ rw' ∧ rw' < 4) (lv0 : 0 ≤ lv ∧ lv ≤ 2) (enf : nf = mny (mbt M) 4) (cond : ∀ p, 0 ≤ p → p < 4 → mbt M p = true → w 55 p = 1 ∧ ((∃ j, (0 ≤ j ∧ j < w 57 p) ∧ w 58 (16 * p + j) = 1735162214) ↔ ∃ j, (0 ≤ j ∧ j < w 57 p) ∧ w 58 (16 * p + j) = 1819239265)) :
    J2 (fun Q => T gC 194 [vR 27 418, vI M, vI lv, vI hm] n h (kI (thr Q) fun a n h => if a = 0 then Q (.inl (some (vI (-4)))) n h else 0 ≤ rw' ∧ rw' < 4 ∧ ¬h 23 rw' = 0 ∧ T gC 119 [vR 3 (h 23 rw'), vR 2 19] n h (kV (thr Q) fun n h => T gC 206 [vR 29 452, vR 28 419] n h (kV (thr Q) fun n h => Q (.inl (some (vI (h 19 1)))) n h))))
      (fun Q => T gM 418 [vR 33 17, vI M] m w (kI (thr Q) fun a n h => if a = 0 then Q (.inl (some (vI (-4)))) n h else T gM 421 [vR 33 17, vI hm] n h (kV (thr Q) fun n h => if 16000 < h 17 29 then Q (.inl (some (vI (-4)))) n h else T gM 286 [vR 33 17, vI lv] n h (kV (thr Q) fun n h => if h 17 32 = 0 then T gM 436 [vI M] n h (kI (thr Q) fun a n h => T gM 341 [vR 33 17, vL 2001684018] n (st h 17 68 0) (kV (thr Q) fun n h => if a < 0 then T_at gM 416 205 [some (vR 33 17), some (vI M), some (vI rw'), some (vI lv), some (vI hm), some (vI nf), some (vI a), none, none, none, none] [vL 1953784678, vR 33 17] n h Q else 0 ≤ a ∧ a < 8 ∧ T_at gM 416 205 [some (vR 33 17), some (vI M), some (vI rw'), some (vI lv), some (vI hm), some (vI nf), some (vI a), none, none, none, none] [vL (h 56 a), vR 33 17] n h Q)) else Q (.inl (some (vI (-4)))) n h)))) (PPk n m h w) := by
  have on : ∀ p : Int, 0 ≤ p → p < 4 → mbt M p = true → w 55 p = 1 := fun p a b c => (cond p a b c).1
  obtain ⟨k1, k2, k3, k4, k5⟩ := msk_v M0
  have k6 := mny_r (mbt M) 4
  -- nothing was given
  have none' : ∀ (h1 w1 : Mem), Fz pkC h h1 → (∀ a j, 492 ≤ a ∧ a < 500 ∨ 452 ≤ a ∧ a ≤ 456 → h1 a j = h a j) → Fz pkM w w1 → (∀ a j, a = 18 ∨ a = 19 ∨ ntM a j → w1 a j = w a j) → PPk n m h w (.inl (some (vI (-4)))) n h1 (.inl (some (vI (-4)))) m w1 := by
    intro h1 w1 F Fr W Wr
    refine ⟨⟨_, rfl, rfl⟩, rfl, rfl, fun k a b => ?_, ?_, F, W⟩
    · rw [F 23 k (fun z => by have := pkC_r z; omega), Fr _ _ (Or.inl (by omega)), Wr 19 k (by omega), show h1 (492 + 2 * k + 1) = h (492 + 2 * k + 1) from funext fun j => Fr _ _ (Or.inl (by omega)), show w1 18 = w 18 from funext fun j => Wr _ _ (by omega)]
      exact RW k a b
    · unfold RE at RE0 ⊢
      rw [Fr 452 0 (by omega), Fr 452 7 (by omega), Fr 452 8 (by omega), Fr 452 9 (by omega), Fr 452 10 (by omega), Wr 17 117 (by unfold ntM; omega), Wr 17 118 (by unfold ntM; omega), Wr 17 119 (by unfold ntM; omega), Wr 17 120 (by unfold ntM; omega), Wr 17 121 (by unfold ntM; omega), show h1 453 = h 453 from funext fun j => Fr _ _ (by omega), show h1 454 = h 454 from funext fun j => Fr _ _ (by omega), show h1 455 = h 455 from funext fun j => Fr _ _ (by omega), show h1 456 = h 456 from funext fun j => Fr _ _ (by omega), show w1 96 = w 96 from funext fun j => Wr _ _ (by unfold ntM; omega), show w1 97 = w 97 from funext fun j => Wr _ _ (by unfold ntM; omega), show w1 98 = w 98 from funext fun j => Wr _ _ (by unfold ntM; omega), show w1 99 = w 99 from funext fun j => Wr _ _ (by unfold ntM; omega)]
      exact RE0
  refine J_impL (fun Q hq => T_go (md := true) [some (vR 27 418), some (vI M), some (vI lv), some (vI hm), none, none] [20, 82, 202, 294, 351] 99 (by decide) rfl (Nat.le_of_ble_eq_true rfl) GC FC rfl k194 hq) ?_
  simp -implicitDefEqProofs only [r_iconst, r_bipush, r_sipush, r_ldc, r_ldc_w, r_lconst, r_ldc2_w, r_aconst_null, r_iload, r_iload_n, r_lload, r_lload_n, r_aload, r_aload_n, r_istore, r_istore_n, r_lstore, r_lstore_n, r_astore, r_astore_n, r_iinc, r_iadd, r_iaddW, r_isub, r_isubW, r_imul, r_imulW, r_ladd, r_laddW, r_lsub, r_lsubW, r_lmul, r_lmulW, r_iand, r_ior, r_ishl, r_ishr, r_iushr, r_land, r_lor, r_lshl, r_lshr, r_lushr, r_idiv, r_irem, r_ldiv, r_lrem, r_lcmp, r_ineg, r_i2l, r_l2i, r_i2b, r_i2s, r_i2c, r_dup, r_pop, r_dup_x1, r_dup_x2, r_dup2, r_dup2L, r_icmp_eq, r_icmp_ne, r_icmp_lt, r_icmp_ge, r_icmp_gt, r_icmp_le, r_if_eq, r_if_ne, r_if_lt, r_if_ge, r_if_gt, r_if_le, r_acmp_eq, r_acmp_ne, r_ifnull, r_ifnonnull, r_goto, r_nop, r_tsw, r_lsw, r_getfield, r_getfinal, r_putfield, r_getstaticL, r_getstaticR, r_iaload, r_baload, r_saload, r_laload, r_aaload, r_aaloadM, r_iastore, r_bastore, r_zastore, r_sastore, r_lastore, r_aastore, r_alen, r_new, r_newarray, r_anewarray, r_invV, r_invI, r_objI, r_invS, r_acp, r_ireturn, r_zreturn, r_lreturn, r_return, r_areturn, r_athrow, ↓e_pI, ↓e_pL, ↓e_pR, ↓e_lg0, ↓e_lg1, ↓e_tk0, ↓e_tkI0, ↓e_tkI1, ↓e_tkI2, ↓e_tkI3, ↓e_tkI4, ↓e_tkL, ↓e_tkR0_0, ↓e_tkR0_1, ↓e_tkR1_0, ↓e_tkR1_1, ↓e_tkR2_0, ↓e_tkR2_1, ↓e_tkR3_0, ↓e_tkR3_1, ↓e_tkR4_0, ↓e_tkR4_1, ↓e_tkR5_0, ↓e_tkR5_1, ↓e_tkR6_0, ↓e_tkR6_1, ↓e_tkR7_0, ↓e_tkR7_1, ↓e_tkR8_0, ↓e_tkR8_1, ↓e_tkR9_0, ↓e_tkR9_1, ↓e_tkR10_0, ↓e_tkR10_1, ↓e_tkR11_0, ↓e_tkR11_1, ↓e_tkR12_0, ↓e_tkR12_1, ↓e_tkR13_0, ↓e_tkR13_1, ↓e_tkR14_0, ↓e_tkR14_1, ↓e_tkR15_0, ↓e_tkR15_1, ↓e_tkR16_0, ↓e_tkR16_1, ↓e_tkR17_0, ↓e_tkR17_1, ↓e_tkR39_0, ↓e_tkR39_1, ↓e_tkR40_0, ↓e_tkR40_1, ↓e_tkR41_0, ↓e_tkR41_1, ↓e_tkR42_0, ↓e_tkR42_1, ↓e_tkR43_0, ↓e_tkR43_1, ↓e_tkR44_0, ↓e_tkR44_1, ↓e_tkR45_0, ↓e_tkR45_1, ↓e_tkR46_0, ↓e_tkR46_1, ↓e_tkR47_0, ↓e_tkR47_1, ↓e_tkR48_0, ↓e_tkR48_1, ↓e_pv0, ↓e_pv1, ↓e_pv2, ↓e_pv3, ↓e_pv5, ↓e_pvR, ↓e_tsw0, ↓e_tsw1, ↓e_lsw0, ↓e_lsw1, e_kq100, e_kq0, e_kq3, e_kq5, e_kqR0, e_kqR1, e_kqR2, e_kqR3, e_kqR4, e_kqR5, e_kqR6, e_kqR7, e_kqR8, e_kqR9, e_kqR10, e_kqR11, e_kqR12, e_kqR13, e_kqR14, e_kqR15, e_kqR16, e_kqR17, e_kqR39, e_kqR40, e_kqR41, e_kqR42, e_kqR43, e_kqR44, e_kqR45, e_kqR46, e_kqR47, e_kqR48, e_st0I, e_st0R, e_st0L, e_st1N, e_st1I, e_st1L, e_st1R, e_st2, e_wd0, e_wdI, e_wdL, e_wdR, e_c1I, e_c1R, e_gv0, e_gv1, e_gv2, e_gv3, e_gv4, e_gv5, e_gvR0, e_gvR1, e_gvR2, e_gvR3, e_gvR4, e_gvR5, e_gvR6, e_gvR7, e_gvR8, e_gvR9, e_gvR10, e_gvR11, e_gvR12, e_gvR13, e_gvR14, e_gvR15, e_gvR16, e_gvR17, e_gvR39, e_gvR40, e_gvR41, e_gvR42, e_gvR43, e_gvR44, e_gvR45, e_gvR46, e_gvR47, e_gvR48, e_kX0, e_kX1, e_kVv, e_kVx, e_kIv, e_kIx, e_kLv, e_kLx, e_kRv, e_kRx, e_thr, e_lk1, e_ic0, e_ic1, e_jm, st_ap, clr_ap, e_lceq, e_lclt, e_lcgt, nn, ↓reduceIte, Nat.reduceDiv, Nat.reduceMod, Nat.reduceMul, Nat.reduceAdd, Nat.reduceEqDiff, Nat.reduceLeDiff, Int.reduceNatCast, Int.cast_ofNat_Int, Int.reduceSub, Int.reduceMul, Int.reduceNeg, Int.reduceAdd, Int.reduceLE, Int.reduceLT, Int.reduceEq, Int.reduceNe, true_and, and_true, true_or, and_self, ne_eq, not_false_eq_true, Bool.false_eq_true, reduceCtorEq, rd_l1, rd_l2, rd_l3, rd_l4, rd_l5, rd_l6, rd_l7, rd_l8, rd_l9, SB, rd_ge, i2b_2, false_and, and_false, not_true_eq_false, l194_0, l194_10, l194_20, l194_45, l194_77, l194_79, l194_82, l194_97, l194_200, l194_202, l194_294, l194_317, l194_351, l194_398, s194_0, s194_10, s194_20, s194_45, s194_77, s194_79, s194_82, s194_97, s194_200, s194_202, s194_294, s194_317, s194_351, s194_398, zC_18, zC_20, zC_21, zC_22, zC_23, zC_25, zC_26, zC_253, zC_254, zC_256, zC_257, zC_259, zC_260, zC_262, zC_263, zC_265, zC_266, zC_268, zC_269, zC_271, zC_272, zC_274, zC_275, zC_278, zC_279, zC_280, zC_281, zC_282, zC_284, zC_285, zC_287, zC_288, zC_290, zC_291, zC_293, zC_294, zC_296, zC_297, zC_299, zC_300, zC_302, zC_303, zC_304, zC_305, zC_306, zC_307, zC_308, zC_309, zC_310, zC_311, zC_312, zC_315, zC_316, zC_317, zC_319, zC_320, zC_321, zC_323, zC_324, zC_325, zC_327, zC_328, zC_329, zC_331, zC_332, zC_333, zC_335, zC_336, zC_337, zC_339, zC_340, zC_341, zC_343, zC_344, zC_345, zC_347, zC_348, zC_349, zC_350, zC_351, zC_352, zC_353, zC_354, zC_355, zC_356, zC_357, zC_358, zC_359, zC_361, zC_362, zC_363, zC_364, zC_367, zC_368, zC_369, zC_370, zC_371, zC_372, zC_373, zC_374, zC_375, zC_376, zC_378, zC_380, zC_381, zC_383, zC_384, zC_386, zC_387, zC_389, zC_390, zC_391, zC_392, zC_393, zC_394, zC_395, zC_396, zC_397, zC_398, zC_400, zC_402, zC_403, zC_405, zC_407, zC_409, zC_411, zC_413, zC_415, zC_417, zC_420, zC_421, zC_422, zC_423, zC_424, zC_425, zC_427, zC_429, zC_431, zC_433, zC_436, zC_437, zC_438, zC_439, zC_440, zC_441, zC_442, zC_443, zC_444, zC_445, zC_447, zC_448, zC_450, zC_451, zC_453, zC_454, zC_455, zC_456, zC_457, zC_458, zC_460, zC_461, zC_462, zC_463, zC_464, zC_465, zC_466, zC_467, zC_468, zC_469, zC_471, zC_473, zC_474, zC_476, zC_477, zC_478, zC_479, zC_480, zC_481, zC_482, zC_483, zC_484, zC_485, zC_487, zC_489, zC_490, zC_491, zC_493, zC_495, zC_497, zC_499]
  refine p_coll (KL := fun Q => kI (thr _) _) (KM := fun Q => kI (thr Q) _) R cond ?_ ?_
  rotate_left
  · intro h1 w1 F1 W1
    try simp only [e_kIv]
    repeat (first | refine J_andL (by first | omega | (constructor <;> omega)) ?_ | refine J_andR (by first | omega | (constructor <;> omega)) ?_ | refine J_posL (by first | omega | (constructor <;> omega)) ?_ | refine J_negL (by first | omega | (constructor <;> omega)) ?_ | refine J_posR (by first | omega | (constructor <;> omega)) ?_ | refine J_negR (by first | omega | (constructor <;> omega)) ?_)
    refine J_end (none' h1 w1 (Fz_mo F1 (fun a j q => Or.inl q)) (fun a j q => F1 a j (by unfold coC; omega)) (Fz_mo W1 (fun a j q => Or.inl q)) (fun a j q => W1 a j (by unfold ntM at q; unfold coM; omega)))
  intro h1 w1 c E1 K1 e7 F1 W1
  try simp only [e_kIv]
  repeat (first | refine J_andL (by first | omega | (constructor <;> omega)) ?_ | refine J_andR (by first | omega | (constructor <;> omega)) ?_ | refine J_posL (by first | omega | (constructor <;> omega)) ?_ | refine J_negL (by first | omega | (constructor <;> omega)) ?_ | refine J_posR (by first | omega | (constructor <;> omega)) ?_ | refine J_negR (by first | omega | (constructor <;> omega)) ?_)
  obtain ⟨e2, B2, F2⟩ := c_clearG (n := n) (h := h1) (o := 426) (c := 16000) (by omega)
  revert e2; revert B2; revert F2
  generalize st (st h1 426 1 0) 426 2 0 = h2
  intro F2 B2 e2
  refine J_LV e2 ?_
  have g2 : ∀ a j, ¬ bgF 426 a j → h2 a j = h1 a j := fun a j q => F2 a j q
  have R1 : RSB β h1 w1 := RSB_co R (fun a j x y => F1 a j (by unfold coC; omega)) (fun a j x y => W1 a j (by unfold coM; omega))
  have R2 : RSB β h2 w1 := RSB_co R1 (fun a j x y => g2 a j (by unfold bgF; omega)) (fun _ _ _ _ => rfl)
  have E2 : ENQ β c h2 w1 := ⟨by rw [g2 _ _ (by unfold bgF; omega)]; exact E1.1, E1.2.1, E1.2.2.1, fun e a b => EN1q_t (E1.2.2.2.1 e a b) (fun a j q => g2 a j (by unfold bgF; omega)) ⟨g2 _ _ (by unfold bgF; omega), g2 _ _ (by unfold bgF; omega), g2 _ _ (by unfold bgF; omega), g2 _ _ (by unfold bgF; omega)⟩ (fun _ _ _ => rfl) ⟨rfl, rfl, rfl⟩, E1.2.2.2.2⟩
  refine p_ins (KM := fun Q => kV (thr Q) _) R2 (fun k a b => by rw [g2 _ _ (by unfold bgF; omega), F1 _ _ (by unfold coC; omega)]; exact S k a b) E2 B2 ?_
  intro h3 w3 P D3 C3 B3 P3 bP lP F3 W3
  try simp only [e_kVv]
  have FT3 : Fz (fun a j => coC a j ∨ enC a j) h h3 := Fz_tr (Fz_mo F1 (fun a j q => Or.inl q)) (Fz_tr (Fz_mo F2 (fun a j q => Or.inr (Or.inr (Or.inl q)))) (Fz_mo F3 (fun a j q => Or.inr q)))
  have WT3 : Fz (fun a j => coM a j ∨ enM a j) w w3 := Fz_tr (Fz_mo W1 (fun a j q => Or.inl q)) (Fz_mo W3 (fun a j q => Or.inr q))
  have FP3 : Fz pkC h h3 := Fz_mo FT3 (fun a j q => by rcases q with q | q; exact Or.inl q; exact Or.inr (Or.inl q))
  have WP3 : Fz pkM w w3 := Fz_mo WT3 (fun a j q => by rcases q with q | q; exact Or.inl q; exact Or.inr (Or.inl q))
  have keep3 : ∀ a j, 492 ≤ a ∧ a < 500 ∨ 452 ≤ a ∧ a ≤ 456 → h3 a j = h a j := fun a j q => FT3 a j (fun z => by
    rcases z with z | z
    · unfold coC at z; omega
    · have := enC_r z; omega)
  have keepw3 : ∀ a j, a = 18 ∨ a = 19 ∨ ntM a j → w3 a j = w a j := fun a j q => WT3 a j (fun z => by
    unfold ntM at q
    rcases z with z | z
    · unfold coM at z; omega
    · have := enM_r z; omega)
  refine J_impL (fun Q hq => blk (md := true) [20, 82, 202, 294, 351] 99 GC FC rfl k194 hq) ?_
  simp -implicitDefEqProofs only [r_iconst, r_bipush, r_sipush, r_ldc, r_ldc_w, r_lconst, r_ldc2_w, r_aconst_null, r_iload, r_iload_n, r_lload, r_lload_n, r_aload, r_aload_n, r_istore, r_istore_n, r_lstore, r_lstore_n, r_astore, r_astore_n, r_iinc, r_iadd, r_iaddW, r_isub, r_isubW, r_imul, r_imulW, r_ladd, r_laddW, r_lsub, r_lsubW, r_lmul, r_lmulW, r_iand, r_ior, r_ishl, r_ishr, r_iushr, r_land, r_lor, r_lshl, r_lshr, r_lushr, r_idiv, r_irem, r_ldiv, r_lrem, r_lcmp, r_ineg, r_i2l, r_l2i, r_i2b, r_i2s, r_i2c, r_dup, r_pop, r_dup_x1, r_dup_x2, r_dup2, r_dup2L, r_icmp_eq, r_icmp_ne, r_icmp_lt, r_icmp_ge, r_icmp_gt, r_icmp_le, r_if_eq, r_if_ne, r_if_lt, r_if_ge, r_if_gt, r_if_le, r_acmp_eq, r_acmp_ne, r_ifnull, r_ifnonnull, r_goto, r_nop, r_tsw, r_lsw, r_getfield, r_getfinal, r_putfield, r_getstaticL, r_getstaticR, r_iaload, r_baload, r_saload, r_laload, r_aaload, r_aaloadM, r_iastore, r_bastore, r_zastore, r_sastore, r_lastore, r_aastore, r_alen, r_new, r_newarray, r_anewarray, r_invV, r_invI, r_objI, r_invS, r_acp, r_ireturn, r_zreturn, r_lreturn, r_return, r_areturn, r_athrow, ↓e_pI, ↓e_pL, ↓e_pR, ↓e_lg0, ↓e_lg1, ↓e_tk0, ↓e_tkI0, ↓e_tkI1, ↓e_tkI2, ↓e_tkI3, ↓e_tkI4, ↓e_tkL, ↓e_tkR0_0, ↓e_tkR0_1, ↓e_tkR1_0, ↓e_tkR1_1, ↓e_tkR2_0, ↓e_tkR2_1, ↓e_tkR3_0, ↓e_tkR3_1, ↓e_tkR4_0, ↓e_tkR4_1, ↓e_tkR5_0, ↓e_tkR5_1, ↓e_tkR6_0, ↓e_tkR6_1, ↓e_tkR7_0, ↓e_tkR7_1, ↓e_tkR8_0, ↓e_tkR8_1, ↓e_tkR9_0, ↓e_tkR9_1, ↓e_tkR10_0, ↓e_tkR10_1, ↓e_tkR11_0, ↓e_tkR11_1, ↓e_tkR12_0, ↓e_tkR12_1, ↓e_tkR13_0, ↓e_tkR13_1, ↓e_tkR14_0, ↓e_tkR14_1, ↓e_tkR15_0, ↓e_tkR15_1, ↓e_tkR16_0, ↓e_tkR16_1, ↓e_tkR17_0, ↓e_tkR17_1, ↓e_tkR39_0, ↓e_tkR39_1, ↓e_tkR40_0, ↓e_tkR40_1, ↓e_tkR41_0, ↓e_tkR41_1, ↓e_tkR42_0, ↓e_tkR42_1, ↓e_tkR43_0, ↓e_tkR43_1, ↓e_tkR44_0, ↓e_tkR44_1, ↓e_tkR45_0, ↓e_tkR45_1, ↓e_tkR46_0, ↓e_tkR46_1, ↓e_tkR47_0, ↓e_tkR47_1, ↓e_tkR48_0, ↓e_tkR48_1, ↓e_pv0, ↓e_pv1, ↓e_pv2, ↓e_pv3, ↓e_pv5, ↓e_pvR, ↓e_tsw0, ↓e_tsw1, ↓e_lsw0, ↓e_lsw1, e_kq100, e_kq0, e_kq3, e_kq5, e_kqR0, e_kqR1, e_kqR2, e_kqR3, e_kqR4, e_kqR5, e_kqR6, e_kqR7, e_kqR8, e_kqR9, e_kqR10, e_kqR11, e_kqR12, e_kqR13, e_kqR14, e_kqR15, e_kqR16, e_kqR17, e_kqR39, e_kqR40, e_kqR41, e_kqR42, e_kqR43, e_kqR44, e_kqR45, e_kqR46, e_kqR47, e_kqR48, e_st0I, e_st0R, e_st0L, e_st1N, e_st1I, e_st1L, e_st1R, e_st2, e_wd0, e_wdI, e_wdL, e_wdR, e_c1I, e_c1R, e_gv0, e_gv1, e_gv2, e_gv3, e_gv4, e_gv5, e_gvR0, e_gvR1, e_gvR2, e_gvR3, e_gvR4, e_gvR5, e_gvR6, e_gvR7, e_gvR8, e_gvR9, e_gvR10, e_gvR11, e_gvR12, e_gvR13, e_gvR14, e_gvR15, e_gvR16, e_gvR17, e_gvR39, e_gvR40, e_gvR41, e_gvR42, e_gvR43, e_gvR44, e_gvR45, e_gvR46, e_gvR47, e_gvR48, e_kX0, e_kX1, e_kVv, e_kVx, e_kIv, e_kIx, e_kLv, e_kLx, e_kRv, e_kRx, e_thr, e_lk1, e_ic0, e_ic1, e_jm, st_ap, clr_ap, e_lceq, e_lclt, e_lcgt, nn, ↓reduceIte, Nat.reduceDiv, Nat.reduceMod, Nat.reduceMul, Nat.reduceAdd, Nat.reduceEqDiff, Nat.reduceLeDiff, Int.reduceNatCast, Int.cast_ofNat_Int, Int.reduceSub, Int.reduceMul, Int.reduceNeg, Int.reduceAdd, Int.reduceLE, Int.reduceLT, Int.reduceEq, Int.reduceNe, true_and, and_true, true_or, and_self, ne_eq, not_false_eq_true, Bool.false_eq_true, reduceCtorEq, rd_l1, rd_l2, rd_l3, rd_l4, rd_l5, rd_l6, rd_l7, rd_l8, rd_l9, SB, rd_ge, i2b_2, false_and, and_false, not_true_eq_false, l194_0, l194_10, l194_20, l194_45, l194_77, l194_79, l194_82, l194_97, l194_200, l194_202, l194_294, l194_317, l194_351, l194_398, s194_0, s194_10, s194_20, s194_45, s194_77, s194_79, s194_82, s194_97, s194_200, s194_202, s194_294, s194_317, s194_351, s194_398, zC_18, zC_20, zC_21, zC_22, zC_23, zC_25, zC_26, zC_253, zC_254, zC_256, zC_257, zC_259, zC_260, zC_262, zC_263, zC_265, zC_266, zC_268, zC_269, zC_271, zC_272, zC_274, zC_275, zC_278, zC_279, zC_280, zC_281, zC_282, zC_284, zC_285, zC_287, zC_288, zC_290, zC_291, zC_293, zC_294, zC_296, zC_297, zC_299, zC_300, zC_302, zC_303, zC_304, zC_305, zC_306, zC_307, zC_308, zC_309, zC_310, zC_311, zC_312, zC_315, zC_316, zC_317, zC_319, zC_320, zC_321, zC_323, zC_324, zC_325, zC_327, zC_328, zC_329, zC_331, zC_332, zC_333, zC_335, zC_336, zC_337, zC_339, zC_340, zC_341, zC_343, zC_344, zC_345, zC_347, zC_348, zC_349, zC_350, zC_351, zC_352, zC_353, zC_354, zC_355, zC_356, zC_357, zC_358, zC_359, zC_361, zC_362, zC_363, zC_364, zC_367, zC_368, zC_369, zC_370, zC_371, zC_372, zC_373, zC_374, zC_375, zC_376, zC_378, zC_380, zC_381, zC_383, zC_384, zC_386, zC_387, zC_389, zC_390, zC_391, zC_392, zC_393, zC_394, zC_395, zC_396, zC_397, zC_398, zC_400, zC_402, zC_403, zC_405, zC_407, zC_409, zC_411, zC_413, zC_415, zC_417, zC_420, zC_421, zC_422, zC_423, zC_424, zC_425, zC_427, zC_429, zC_431, zC_433, zC_436, zC_437, zC_438, zC_439, zC_440, zC_441, zC_442, zC_443, zC_444, zC_445, zC_447, zC_448, zC_450, zC_451, zC_453, zC_454, zC_455, zC_456, zC_457, zC_458, zC_460, zC_461, zC_462, zC_463, zC_464, zC_465, zC_466, zC_467, zC_468, zC_469, zC_471, zC_473, zC_474, zC_476, zC_477, zC_478, zC_479, zC_480, zC_481, zC_482, zC_483, zC_484, zC_485, zC_487, zC_489, zC_490, zC_491, zC_493, zC_495, zC_497, zC_499]
  rw [C3.1, P3.1]
  refine J_negL (by omega) ?_
  by_cases big : 16000 < (P.length : Int)
  · have b4 : h3 426 2 = 1 := by
      rcases B3 with ⟨z, -⟩ | ⟨-, z, -⟩
      · omega
      · exact z
    refine J_negL (by omega) (J_posR big ?_)
    try simp only [e_kIv]
    repeat (first | refine J_andL (by first | omega | (constructor <;> omega)) ?_ | refine J_andR (by first | omega | (constructor <;> omega)) ?_ | refine J_posL (by first | omega | (constructor <;> omega)) ?_ | refine J_negL (by first | omega | (constructor <;> omega)) ?_ | refine J_posR (by first | omega | (constructor <;> omega)) ?_ | refine J_negR (by first | omega | (constructor <;> omega)) ?_)
    exact J_end (none' h3 w3 FP3 keep3 WP3 keepw3)
  have b4 : h3 426 2 = 0 ∧ BL h3 426 P := by
    rcases B3 with ⟨-, z⟩ | ⟨z, -⟩
    · exact z
    · omega
  refine J_posL b4.1 (J_negR big (J_andL (Or.inr trivial) ?_))
  have fh3 : ∀ a j, (24 ≤ a ∧ a ≤ 275) ∨ (313 ≤ a ∧ a ≤ 359) ∨ a = 383 → h3 a j = h a j := fun a j q => FT3 a j (fun z => by
    rcases z with z | z
    · unfold coC at z; omega
    · have := enC_r z; omega)
  have MK3 : MKC h3 := by
    obtain ⟨a1, a2, a3, a4, a5⟩ := MK
    exact ⟨fun i x y => by rw [fh3 _ _ (by omega)]; exact a1 i x y, fun i x y => by rw [fh3 _ _ (by omega)]; exact a2 i x y, by rw [fh3 _ _ (by omega)]; exact a3, by rw [fh3 _ _ (by omega)]; exact a4, by rw [fh3 _ _ (by omega)]; exact a5⟩
  have sq := p_sqz (n := n) (m := m) (xo := 428) (t := 426) (z := lv) (h := h3) (w := w3) (Or.inr rfl) (by decide +kernel) lv0 MK3 (by omega) (by omega) (by rw [b4.2.1, show ((gC.1 (426 + 1)).2 : Int) = 16000 by decide +kernel]; omega) (by rw [b4.2.1]; omega) (by rw [P3.1, b4.2.1]) (fun i i0 i1 => by
    rw [b4.2.1] at i1
    have x1 := b4.2.2 i.toNat (by omega)
    have x2 := P3.2 i.toNat (by omega) (by omega)
    have x3 := byt_g bP i.toNat
    rw [show ((i.toNat : Nat) : Int) = i by omega] at x1 x2
    rw [show (426 : Int) + 1 = 427 from rfl] at x1
    rw [show (426 : Int) + 1 = 427 from rfl, x1, x2]
    exact ⟨rfl, x3⟩) (by omega)
  refine J_bind (KO := fun Q => kI (thr _) _) (KO' := fun Q => kV (thr Q) _) sq ?_
  rintro o n4 h4 o' m4 w4 ⟨sr, rfl, rfl, rfl, WC4, WM4, F4, W4⟩
  try simp only [e_kIv, e_kVv]
  have c40 := C3.2.2.1
  have W04 : Fz (fun a j => coM a j ∨ enM a j ∨ pcM a j) w w4 := Fz_tr (Fz_mo WT3 (fun a j q => by rcases q with q | q; exact Or.inl q; exact Or.inr (Or.inl q))) (Fz_mo W4 (fun a j q => Or.inr (Or.inr q)))
  have FP4 : Fz pkC h h4 := Fz_tr FP3 (Fz_mo F4 (fun a j q => Or.inr (Or.inr (Or.inl q))))
  have WP4 : Fz pkM w w4 := Fz_tr WP3 (Fz_mo W4 (fun a j q => Or.inr (Or.inr (Or.inl q))))
  have keep4 : ∀ a j, 492 ≤ a ∧ a < 500 ∨ 452 ≤ a ∧ a ≤ 456 → h4 a j = h a j := fun a j q => by rw [F4 a j (by unfold szC pcC wrC; omega)]; exact keep3 a j q
  have keepw4 : ∀ a j, a = 18 ∨ a = 19 ∨ ntM a j → w4 a j = w a j := fun a j q => by rw [W4 a j (by unfold ntM at q; unfold pcM; omega)]; exact keepw3 a j q
  -- cells of the entries
  have x3 : ∀ a j, (a = 419) ∨ a = 420 ∨ a = 424 ∨ a = 425 → h3 a j = h2 a j := fun a j q => F3 a j (fun z => by have := enC_r z; omega)
  have x4 : ∀ a j, 419 ≤ a ∧ a ≤ 427 → h4 a j = h3 a j := fun a j q => F4 a j (by unfold szC pcC wrC; omega)
  have y3 : ∀ a j, a = 102 ∨ a = 106 ∨ a = 107 ∨ a = 108 ∨ (52 ≤ a ∧ a ≤ 59) ∨ (a = 17 ∧ j = 128) → w3 a j = w1 a j := fun a j q => W3 a j (fun z => by have := enM_r z; omega)
  have y4 : ∀ a j, (102 ≤ a ∧ a ≤ 108) ∨ (52 ≤ a ∧ a ≤ 59) ∨ (a = 17 ∧ (j = 128 ∨ j = 29)) → w4 a j = w3 a j := fun a j q => W4 a j (by unfold pcM; omega)
  have z1 : ∀ a j, 52 ≤ a ∧ a ≤ 59 → w1 a j = w a j := fun a j q => W1 a j (by unfold coM; omega)
  have R4 : RSB β h4 w4 := RSB_co R (fun a j x y => by rw [F4 a j (by unfold szC pcC wrC; omega)]; exact fh3 a j (by omega)) (fun a j x y => by rw [y4 a j (by omega), y3 a j (by omega)]; exact z1 a j (by omega))
  have on4 : ∀ p : Int, 0 ≤ p → p < 4 → mbt M p = true → w4 55 p = 1 := fun p a b mp => by rw [y4 _ _ (by omega), y3 _ _ (by omega), z1 _ _ (by omega)]; exact on p a b mp
  have cond1 : ∀ p, 0 ≤ p → p < 4 → mbt M p = true → w1 55 p = 1 ∧ ((∃ j, (0 ≤ j ∧ j < w1 57 p) ∧ w1 58 (16 * p + j) = 1735162214) ↔ ∃ j, (0 ≤ j ∧ j < w1 57 p) ∧ w1 58 (16 * p + j) = 1819239265) := by
    rw [show w1 55 = w 55 from funext fun j => z1 _ _ (by omega), show w1 57 = w 57 from funext fun j => z1 _ _ (by omega), show w1 58 = w 58 from funext fun j => z1 _ _ (by omega)]
    exact cond
  have K1' : ∀ p, 0 ≤ p → p < 4 → mbt M p = true → ∀ j, 0 ≤ j → j < w1 57 p → EOK c p j w1 := fun p a b mp j j0 j1 => K1 p a b mp j j0 (by rw [z1 _ _ (by omega)] at j1; exact j1)
  have e74 : h4 419 7 = nf := by rw [x4 _ _ (by omega), x3 _ _ (by omega), g2 _ _ (by unfold bgF; omega), enf]; exact e7
  have e04 : h4 419 0 = c := by rw [x4 _ _ (by omega)]; exact C3.1
  have c04 : w4 17 128 = c := by rw [y4 _ _ (by omega)]; exact C3.2.1
  have ED4 : EDN c h4 w4 := by
    refine ⟨e04, c04, C3.2.2.1, fun e a b => ?_⟩
    obtain ⟨d1, d2, -, d3, d4, d5⟩ := D3.1 e a b
    rw [x4 420 e (by omega), x4 421 e (by omega), x4 422 e (by omega), x4 423 e (by omega), y4 102 e (by omega), y4 103 e (by omega), y4 104 e (by omega), y4 105 e (by omega)]
    exact ⟨(C3.2.2.2 e a b).1, ⟨d1, by omega, by omega⟩, d3, d5 (by omega), d4⟩
  have f04 : ∀ a j, (24 ≤ a ∧ a ≤ 275) ∨ a = 420 ∨ a = 424 ∨ (a = 419 ∧ j = 0) → h4 a j = h2 a j := fun a j q => by
    by_cases z : 24 ≤ a ∧ a ≤ 275
    · rw [F4 a j (by unfold szC pcC wrC; omega)]; exact F3 a j (fun z => by have := enC_r z; omega)
    · rw [x4 _ _ (by omega)]; exact x3 a j (by omega)
  have g04 : ∀ a j, (52 ≤ a ∧ a ≤ 59) ∨ a = 108 → w4 a j = w1 a j := fun a j q => by rw [y4 a j (by omega)]; exact y3 a j (by omega)
  have flE : ∃ fl, fl = if nf = 1 then w4 56 (fstb M) else 1953784678 := ⟨_, rfl⟩
  obtain ⟨fl, efl⟩ := flE
  rcases sr with ⟨rfl, WG4, z314⟩ | ⟨rfl, WB4⟩
  rotate_left
  · -- too much
    try simp only [e_kIv]
    repeat (first | refine J_andL (by first | omega | (constructor <;> omega)) ?_ | refine J_andR (by first | omega | (constructor <;> omega)) ?_ | refine J_posL (by first | omega | (constructor <;> omega)) ?_ | refine J_negL (by first | omega | (constructor <;> omega)) ?_ | refine J_posR (by first | omega | (constructor <;> omega)) ?_ | refine J_negR (by first | omega | (constructor <;> omega)) ?_)
    by_cases tm : w4 17 32 = 0
    · refine J_posR tm ?_
      have s0 : 0 ≤ (w4 17 31).tdiv 8 ∧ (w4 17 31).tdiv 8 ≤ 20000 ∧ 16000 ≤ (w4 17 31).tdiv 8 := by
        have t8 : (w4 17 31).tdiv 8 = w4 17 31 / 8 := Int.tdiv_eq_ediv_of_nonneg WM4.1
        have := WM4.2
        have := WB4.2
        have := WM4.1
        omega
      refine m_head (h := h4) (KM := fun Q => Q) (fl := fl) (c := c) R4 M0 on4 c04 enf efl rfl ⟨s0.1, s0.2.1⟩ ?_
      intro w5 O5 W5
      have ED5 : EDN c h4 w5 := EDN_t ED4 (fun _ _ _ => rfl) (fun a j q => W5 a j (by unfold hedM omM; omega))
      refine m_dirA (h := h4) (KM := fun Q => kV (thr Q) _) ED5 O5 (byt_hd _ _ _ _) (by rw [hdrL_l]; omega) ?_
      intro w6 L6 O6 b6 l6 W6
      rw [hdrL_l] at l6
      try simp only [e_kVv]
      have W56 : Fz hedM w4 w6 := Fz_tr W5 (Fz_mo W6 (fun a j q => Or.inl q))
      have pend : ∀ (w7 : Mem) (L7 : List Int) (o10 : Option V), OM w7 L7 → (12 ≤ (L7.length : Int) ∧ (L7.length : Int) ≤ 3000) → Fz hedM w4 w7 → J2 (fun Q : Qt => Q (.inl (some (vI (-4)))) n4 h4) (fun Q => T_at gM 416 429 [some (vR 33 17), some (vI M), some (vI rw'), some (vI lv), some (vI hm), some (vI nf), some (vI (one1 M)), some (vL (lnv M h4 w4)), none, some (vI 0), o10] [] m4 w7 Q) (PPk n4 m4 h w) := by
        intro w7 L7 o10 O7 l7 W7
        refine m_pend (KM := fun Q => Q) O7 l7 (by rw [W7 17 31 (by unfold hedM omM; omega)]) ⟨s0.1, s0.2.1⟩ ?_ ?_
        · intro w8 big8 W8
          refine J_end (none' h4 w8 FP4 keep4 (Fz_tr WP4 (Fz_tr (Fz_mo W7 (fun a j q => Or.inr (Or.inr (Or.inr (Or.inl q))))) (Fz_mo W8 (fun a j q => Or.inr (Or.inr (Or.inr (Or.inl (Or.inl q)))))))) (fun a j q => ?_))
          rw [W8 a j (by unfold ntM at q; unfold omM; omega), W7 a j (by unfold ntM at q; unfold hedM omM; omega)]
          exact keepw4 a j q
        · intro w8 sm8
          rw [List.length_append, List.length_append, slc_l] at sm8
          omega
      by_cases o1 : one1 M < 0
      · refine J_posR o1 ?_
        refine m_fontsA (KM := fun Q => Q) (h := h4) R2 E2 cond1 K1' f04 (fun a j q => by rw [W56 a j (by unfold hedM omM; omega)]; exact g04 a j q) e74 (by omega) O6 b6 (by omega) ?_
        intro w7 L7 o10 O7 b7 l7 W7
        exact pend w7 L7 o10 O7 (by omega) (Fz_tr W56 (Fz_mo W7 (fun a j q => Or.inl q)))
      · refine J_negR o1 ?_
        exact pend w6 L6 none O6 (by omega) W56
    · refine J_negR tm ?_
      exact J_end (none' h4 w4 FP4 keep4 WP4 keepw4)
  -- there was room
  obtain ⟨v1, v2, v3, v4, v5⟩ := WG4
  have sz0 : 0 ≤ h4 428 1 ∧ h4 428 1 ≤ 16000 := WC4.2.1
  have e31 : (w4 17 31).tdiv 8 = h4 428 1 := by
    rw [Int.tdiv_eq_ediv_of_nonneg WM4.1]; omega
  generalize esz : h4 428 1 = sz at sz0 e31
  try simp only [e_kIv]
  repeat (first | refine J_andL (by first | omega | (constructor <;> omega)) ?_ | refine J_andR (by first | omega | (constructor <;> omega)) ?_ | refine J_posL (by first | omega | (constructor <;> omega)) ?_ | refine J_negL (by first | omega | (constructor <;> omega)) ?_ | refine J_posR (by first | omega | (constructor <;> omega)) ?_ | refine J_negR (by first | omega | (constructor <;> omega)) ?_)
  try refine J_posR v2 ?_
  refine c_head (KL := fun Q => kI (thr Q) _) (fl := fl) (c := c) (nf := nf) R4 M0 on4 e04 e74 enf efl ?_
  intro h5 x4' B5 a8 a9 a10 F5
  rw [esz] at B5 a9
  refine m_head (h := h4) (KM := fun Q => Q) (fl := fl) (c := c) (nf := nf) (sz := sz) R4 M0 on4 c04 enf efl e31 ⟨sz0.1, by omega⟩ ?_
  intro w5 O5 W5
  generalize ewh : lnv M h4 w4 = wh at B5 a10 O5
  have S5 : FSS (hdrL fl c wh sz) h5 w5 := ⟨B5, O5, byt_hd _ _ _ _⟩
  have ED5 : EDN c h5 w5 := EDN_t ED4 (fun a j q => F5 a j (by unfold hedC seC bgF; omega)) (fun a j q => W5 a j (by unfold hedM omM; omega))
  refine J_impL (fun Q hq => blk (md := true) [20, 82, 202, 294, 351] 99 GC FC rfl k194 hq) ?_
  simp -implicitDefEqProofs only [r_iconst, r_bipush, r_sipush, r_ldc, r_ldc_w, r_lconst, r_ldc2_w, r_aconst_null, r_iload, r_iload_n, r_lload, r_lload_n, r_aload, r_aload_n, r_istore, r_istore_n, r_lstore, r_lstore_n, r_astore, r_astore_n, r_iinc, r_iadd, r_iaddW, r_isub, r_isubW, r_imul, r_imulW, r_ladd, r_laddW, r_lsub, r_lsubW, r_lmul, r_lmulW, r_iand, r_ior, r_ishl, r_ishr, r_iushr, r_land, r_lor, r_lshl, r_lshr, r_lushr, r_idiv, r_irem, r_ldiv, r_lrem, r_lcmp, r_ineg, r_i2l, r_l2i, r_i2b, r_i2s, r_i2c, r_dup, r_pop, r_dup_x1, r_dup_x2, r_dup2, r_dup2L, r_icmp_eq, r_icmp_ne, r_icmp_lt, r_icmp_ge, r_icmp_gt, r_icmp_le, r_if_eq, r_if_ne, r_if_lt, r_if_ge, r_if_gt, r_if_le, r_acmp_eq, r_acmp_ne, r_ifnull, r_ifnonnull, r_goto, r_nop, r_tsw, r_lsw, r_getfield, r_getfinal, r_putfield, r_getstaticL, r_getstaticR, r_iaload, r_baload, r_saload, r_laload, r_aaload, r_aaloadM, r_iastore, r_bastore, r_zastore, r_sastore, r_lastore, r_aastore, r_alen, r_new, r_newarray, r_anewarray, r_invV, r_invI, r_objI, r_invS, r_acp, r_ireturn, r_zreturn, r_lreturn, r_return, r_areturn, r_athrow, ↓e_pI, ↓e_pL, ↓e_pR, ↓e_lg0, ↓e_lg1, ↓e_tk0, ↓e_tkI0, ↓e_tkI1, ↓e_tkI2, ↓e_tkI3, ↓e_tkI4, ↓e_tkL, ↓e_tkR0_0, ↓e_tkR0_1, ↓e_tkR1_0, ↓e_tkR1_1, ↓e_tkR2_0, ↓e_tkR2_1, ↓e_tkR3_0, ↓e_tkR3_1, ↓e_tkR4_0, ↓e_tkR4_1, ↓e_tkR5_0, ↓e_tkR5_1, ↓e_tkR6_0, ↓e_tkR6_1, ↓e_tkR7_0, ↓e_tkR7_1, ↓e_tkR8_0, ↓e_tkR8_1, ↓e_tkR9_0, ↓e_tkR9_1, ↓e_tkR10_0, ↓e_tkR10_1, ↓e_tkR11_0, ↓e_tkR11_1, ↓e_tkR12_0, ↓e_tkR12_1, ↓e_tkR13_0, ↓e_tkR13_1, ↓e_tkR14_0, ↓e_tkR14_1, ↓e_tkR15_0, ↓e_tkR15_1, ↓e_tkR16_0, ↓e_tkR16_1, ↓e_tkR17_0, ↓e_tkR17_1, ↓e_tkR39_0, ↓e_tkR39_1, ↓e_tkR40_0, ↓e_tkR40_1, ↓e_tkR41_0, ↓e_tkR41_1, ↓e_tkR42_0, ↓e_tkR42_1, ↓e_tkR43_0, ↓e_tkR43_1, ↓e_tkR44_0, ↓e_tkR44_1, ↓e_tkR45_0, ↓e_tkR45_1, ↓e_tkR46_0, ↓e_tkR46_1, ↓e_tkR47_0, ↓e_tkR47_1, ↓e_tkR48_0, ↓e_tkR48_1, ↓e_pv0, ↓e_pv1, ↓e_pv2, ↓e_pv3, ↓e_pv5, ↓e_pvR, ↓e_tsw0, ↓e_tsw1, ↓e_lsw0, ↓e_lsw1, e_kq100, e_kq0, e_kq3, e_kq5, e_kqR0, e_kqR1, e_kqR2, e_kqR3, e_kqR4, e_kqR5, e_kqR6, e_kqR7, e_kqR8, e_kqR9, e_kqR10, e_kqR11, e_kqR12, e_kqR13, e_kqR14, e_kqR15, e_kqR16, e_kqR17, e_kqR39, e_kqR40, e_kqR41, e_kqR42, e_kqR43, e_kqR44, e_kqR45, e_kqR46, e_kqR47, e_kqR48, e_st0I, e_st0R, e_st0L, e_st1N, e_st1I, e_st1L, e_st1R, e_st2, e_wd0, e_wdI, e_wdL, e_wdR, e_c1I, e_c1R, e_gv0, e_gv1, e_gv2, e_gv3, e_gv4, e_gv5, e_gvR0, e_gvR1, e_gvR2, e_gvR3, e_gvR4, e_gvR5, e_gvR6, e_gvR7, e_gvR8, e_gvR9, e_gvR10, e_gvR11, e_gvR12, e_gvR13, e_gvR14, e_gvR15, e_gvR16, e_gvR17, e_gvR39, e_gvR40, e_gvR41, e_gvR42, e_gvR43, e_gvR44, e_gvR45, e_gvR46, e_gvR47, e_gvR48, e_kX0, e_kX1, e_kVv, e_kVx, e_kIv, e_kIx, e_kLv, e_kLx, e_kRv, e_kRx, e_thr, e_lk1, e_ic0, e_ic1, e_jm, st_ap, clr_ap, e_lceq, e_lclt, e_lcgt, nn, ↓reduceIte, Nat.reduceDiv, Nat.reduceMod, Nat.reduceMul, Nat.reduceAdd, Nat.reduceEqDiff, Nat.reduceLeDiff, Int.reduceNatCast, Int.cast_ofNat_Int, Int.reduceSub, Int.reduceMul, Int.reduceNeg, Int.reduceAdd, Int.reduceLE, Int.reduceLT, Int.reduceEq, Int.reduceNe, true_and, and_true, true_or, and_self, ne_eq, not_false_eq_true, Bool.false_eq_true, reduceCtorEq, rd_l1, rd_l2, rd_l3, rd_l4, rd_l5, rd_l6, rd_l7, rd_l8, rd_l9, SB, rd_ge, i2b_2, false_and, and_false, not_true_eq_false, l194_0, l194_10, l194_20, l194_45, l194_77, l194_79, l194_82, l194_97, l194_200, l194_202, l194_294, l194_317, l194_351, l194_398, s194_0, s194_10, s194_20, s194_45, s194_77, s194_79, s194_82, s194_97, s194_200, s194_202, s194_294, s194_317, s194_351, s194_398, zC_18, zC_20, zC_21, zC_22, zC_23, zC_25, zC_26, zC_253, zC_254, zC_256, zC_257, zC_259, zC_260, zC_262, zC_263, zC_265, zC_266, zC_268, zC_269, zC_271, zC_272, zC_274, zC_275, zC_278, zC_279, zC_280, zC_281, zC_282, zC_284, zC_285, zC_287, zC_288, zC_290, zC_291, zC_293, zC_294, zC_296, zC_297, zC_299, zC_300, zC_302, zC_303, zC_304, zC_305, zC_306, zC_307, zC_308, zC_309, zC_310, zC_311, zC_312, zC_315, zC_316, zC_317, zC_319, zC_320, zC_321, zC_323, zC_324, zC_325, zC_327, zC_328, zC_329, zC_331, zC_332, zC_333, zC_335, zC_336, zC_337, zC_339, zC_340, zC_341, zC_343, zC_344, zC_345, zC_347, zC_348, zC_349, zC_350, zC_351, zC_352, zC_353, zC_354, zC_355, zC_356, zC_357, zC_358, zC_359, zC_361, zC_362, zC_363, zC_364, zC_367, zC_368, zC_369, zC_370, zC_371, zC_372, zC_373, zC_374, zC_375, zC_376, zC_378, zC_380, zC_381, zC_383, zC_384, zC_386, zC_387, zC_389, zC_390, zC_391, zC_392, zC_393, zC_394, zC_395, zC_396, zC_397, zC_398, zC_400, zC_402, zC_403, zC_405, zC_407, zC_409, zC_411, zC_413, zC_415, zC_417, zC_420, zC_421, zC_422, zC_423, zC_424, zC_425, zC_427, zC_429, zC_431, zC_433, zC_436, zC_437, zC_438, zC_439, zC_440, zC_441, zC_442, zC_443, zC_444, zC_445, zC_447, zC_448, zC_450, zC_451, zC_453, zC_454, zC_455, zC_456, zC_457, zC_458, zC_460, zC_461, zC_462, zC_463, zC_464, zC_465, zC_466, zC_467, zC_468, zC_469, zC_471, zC_473, zC_474, zC_476, zC_477, zC_478, zC_479, zC_480, zC_481, zC_482, zC_483, zC_484, zC_485, zC_487, zC_489, zC_490, zC_491, zC_493, zC_495, zC_497, zC_499]
  refine J_andL (Or.inr trivial) ?_
  refine p_dir (KL := fun Q => kV (thr _) _) (KM := fun Q => kV (thr Q) _) ED5 S5 (by rw [hdrL_l]; omega) ?_
  intro h6 w6 L6 S6 l6 F6 W6
  rw [hdrL_l] at l6
  try simp only [e_kVv]
  have F56 : Fz hedC h4 h6 := Fz_tr F5 (Fz_mo F6 (fun a j q => Or.inr (Or.inl q)))
  have W56 : Fz hedM w4 w6 := Fz_tr W5 (Fz_mo W6 (fun a j q => Or.inl q))
  have e76 : h6 419 7 = nf := by rw [F56 _ _ (by unfold hedC seC bgF; omega)]; exact e74
  have c86 : h6 419 8 = h4 426 1 ∧ h6 419 9 = sz ∧ h6 419 10 = wh := by rw [F6 _ _ (by unfold bgF; omega), F6 _ _ (by unfold bgF; omega), F6 _ _ (by unfold bgF; omega)]; exact ⟨a8, a9, a10⟩
  -- the end of both
  have pend : ∀ (h7 w7 : Mem) (L7 : List Int) (o10 : Option V), FSS L7 h7 w7 → (12 ≤ (L7.length : Int) ∧ (L7.length : Int) ≤ 3000) → Fz (bgF 19) h6 h7 → Fz omM w6 w7 → J2 (fun Q : Qt => T_at gC 194 351 [some (vR 27 418), some (vI M), some (vI lv), some (vI hm), some (vI x4'), some (vI 5)] [] n4 h7 (kI (thr Q) fun a n h => if a = 0 then Q (.inl (some (vI (-4)))) n h else 0 ≤ rw' ∧ rw' < 4 ∧ ¬h 23 rw' = 0 ∧ T gC 119 [vR 3 (h 23 rw'), vR 2 19] n h (kV (thr Q) fun n h => T gC 206 [vR 29 452, vR 28 419] n h (kV (thr Q) fun n h => Q (.inl (some (vI (h 19 1)))) n h)))) (fun Q => T_at gM 416 429 [some (vR 33 17), some (vI M), some (vI rw'), some (vI lv), some (vI hm), some (vI nf), some (vI (one1 M)), some (vL wh), none, some (vI 0), o10] [] m4 w7 Q) (PPk n4 m4 h w) := by
    intro h7 w7 L7 o10 S7 l7 F7 W7
    have W47 : Fz hedM w4 w7 := Fz_tr W56 (Fz_mo W7 (fun a j q => Or.inl q))
    have F47 : Fz hedC h4 h7 := Fz_tr F56 (Fz_mo F7 (fun a j q => Or.inr (Or.inl q)))
    have FP7 : Fz pkC h h7 := Fz_tr FP4 (Fz_mo F47 (fun a j q => Or.inr (Or.inr (Or.inr (Or.inl q)))))
    have WP7 : Fz pkM w w7 := Fz_tr WP4 (Fz_mo W47 (fun a j q => Or.inr (Or.inr (Or.inr (Or.inl q)))))
    have es : slc (fun i => i2b (w7 38 i)) 0 sz.toNat = slc (h7 429) 0 sz.toNat := slc_c (fun i hi => by
      have := v4 (0 + i) (by omega) (by rw [esz]; omega)
      show i2b (w7 38 (0 + i)) = _
      rw [W47 38 _ (by unfold hedM omM; omega), F47 429 _ (by unfold hedC seC bgF; omega)]
      rw [show (428 : Int) + 1 = 429 from rfl] at this
      rw [← this.1, i2b_eq]; omega)
    refine c_pend (KL := fun Q => kI (thr Q) _) (sz := sz) S7.1 l7.1 (by rw [F47 428 1 (by unfold hedC seC bgF; omega)]; exact esz) sz0 ?_ ?_
    · intro h8 big8 F8
      try simp only [e_kIv]
      repeat (first | refine J_andL (by first | omega | (constructor <;> omega)) ?_ | refine J_andR (by first | omega | (constructor <;> omega)) ?_ | refine J_posL (by first | omega | (constructor <;> omega)) ?_ | refine J_negL (by first | omega | (constructor <;> omega)) ?_ | refine J_posR (by first | omega | (constructor <;> omega)) ?_ | refine J_negR (by first | omega | (constructor <;> omega)) ?_)
      refine m_pend (KM := fun Q => Q) (sz := sz) S7.2.1 l7 (by rw [W47 17 31 (by unfold hedM omM; omega)]; exact e31) ⟨sz0.1, by omega⟩ ?_ ?_
      · intro w8 _ W8
        refine J_end (none' h8 w8 (Fz_tr FP7 (Fz_mo F8 (fun a j q => Or.inr (Or.inr (Or.inr (Or.inr (Or.inl q))))))) (fun a j q => ?_) (Fz_tr WP7 (Fz_mo W8 (fun a j q => Or.inr (Or.inr (Or.inr (Or.inl (Or.inl q))))))) (fun a j q => ?_))
        · rw [F8 a j (by unfold boF; omega), F47 a j (by unfold hedC seC bgF; omega)]; exact keep4 a j q
        · rw [W8 a j (by unfold ntM at q; unfold omM; omega), W47 a j (by unfold ntM at q; unfold hedM omM; omega)]; exact keepw4 a j q
      · intro w8 sm8
        rw [es] at sm8
        omega
    · intro h8 sm8 b1 b2 b3 F8
      try simp only [e_kIv]
      repeat (first | refine J_andL (by first | omega | (constructor <;> omega)) ?_ | refine J_andR (by first | omega | (constructor <;> omega)) ?_ | refine J_posL (by first | omega | (constructor <;> omega)) ?_ | refine J_negL (by first | omega | (constructor <;> omega)) ?_ | refine J_posR (by first | omega | (constructor <;> omega)) ?_ | refine J_negR (by first | omega | (constructor <;> omega)) ?_)
      refine m_pend (KM := fun Q => Q) (sz := sz) S7.2.1 l7 (by rw [W47 17 31 (by unfold hedM omM; omega)]; exact e31) ⟨sz0.1, by omega⟩ ?_ ?_
      · intro w8 big8
        rw [es] at big8
        omega
      · rw [es]
        intro w8 _ O8 W8
        generalize eY : L7 ++ slc (h7 429) 0 sz.toNat ++ List.replicate (pdn (L7 ++ slc (h7 429) 0 sz.toNat)) 0 = Y at sm8 b1 b3 O8
        have bY : byt Y := by
          rw [← eY]
          refine byt_a (byt_a S7.2.2 (byt_s (fun i hi => ?_))) byt_z
          have := v4 (0 + i) (by omega) (by rw [esz]; omega)
          rw [F47 429 _ (by unfold hedC seC bgF; omega)]
          exact this.2
        have bA : ∀ i : Int, -128 ≤ adj Y 8 Y.length i ∧ adj Y 8 Y.length i ≤ 127 := fun i => by
          unfold adj
          repeat' split
          all_goals (first | exact i2b_r _ | exact byt_g bY _)
        have F48 : Fz (fun a j => hedC a j ∨ boF a j) h4 h8 := Fz_tr (Fz_mo F47 (fun a j q => Or.inl q)) (Fz_mo F8 (fun a j q => Or.inr q))
        have e23 : h8 23 rw' = 492 + 2 * rw' := by
          rw [F48 _ _ (by unfold hedC seC bgF boF; omega), FP4 _ _ (fun z => by have := pkC_r z; omega)]
          exact (RW rw' r0.1 r0.2).1
        have zr : (gC.1 (492 + 2 * rw' + 1)).2 = 16000 := by
          rcases (by omega : rw' = 0 ∨ rw' = 1 ∨ rw' = 2 ∨ rw' = 3) with g | g | g | g <;> rw [g] <;> decide +kernel
        obtain ⟨h9, e9, s9, o9, c9, F9⟩ := c_becm (n := n4) (h := h8) (o := 492 + 2 * rw') (p := 19) (by omega) (by omega) (by omega) (by rw [zr]; omega) (by rw [b1]; omega) (by rw [b1, zr]; omega) (by rw [b1, zc19]; omega)
        obtain ⟨ha, ea, q1, q2, Fa⟩ := c_206 (n := n4) (h := h9)
        have w8c : w8 17 128 = c := by rw [W8 _ _ (by unfold omM; omega), W47 _ _ (by unfold hedM omM; omega)]; exact c04
        obtain ⟨w9, d9, p1, p2, W9⟩ := m_442 (m := m4) (w := w8) (c := c) (nf := nf) (a := w8 17 29) (b := sz) (d := wh) w8c c40
        have O9 : OM w9 (slc (adj Y 8 Y.length) 0 Y.length) := ⟨by rw [W9 _ _ (by unfold ntM; omega)]; exact O8.1, fun i hi => by rw [W9 _ _ (by unfold ntM; omega)]; exact O8.2 i hi⟩
        obtain ⟨wa, da, ra, ba, Wa⟩ := m_laid (m := m4) (r := rw') r0 O9 (by rw [slc_l]; exact sm8) (fun i hi => by rw [slc_l] at hi; rw [slc_g _ _ _ _ hi]; exact bA _)
        rw [slc_l] at da ra ba
        rw [e23]
        refine J_andL (by omega) (J_LV e9 (J_LV ea ?_))
        refine J_RV d9 (J_RI da ?_)
        have h19 : ha 19 1 = Y.length := by rw [Fa _ _ (by unfold bcC; omega), F9 _ _ (by omega)]; exact b1
        rw [h19]
        have FPa : Fz pkC h ha := Fz_tr FP7 (Fz_tr (Fz_mo F8 (fun a j q => Or.inr (Or.inr (Or.inr (Or.inr (Or.inl q)))))) (Fz_tr (Fz_mo F9 (fun a j q => Or.inr (Or.inr (Or.inr (Or.inr (Or.inr (Or.inl (by omega)))))))) (Fz_mo Fa (fun a j q => Or.inr (Or.inr (Or.inr (Or.inr (Or.inr (Or.inr q)))))))))
        have WPa : Fz pkM w wa := Fz_tr WP7 (Fz_tr (Fz_mo W8 (fun a j q => Or.inr (Or.inr (Or.inr (Or.inl (Or.inl q)))))) (Fz_tr (Fz_mo W9 (fun a j q => Or.inr (Or.inr (Or.inr (Or.inr (Or.inr (Or.inr q))))))) (Fz_mo Wa (fun a j q => by
          rcases q with q | q
          · exact Or.inr (Or.inr (Or.inr (Or.inr (Or.inl q.1))))
          · exact Or.inr (Or.inr (Or.inr (Or.inr (Or.inr (Or.inl q.1)))))))))
        refine J_end ⟨⟨_, rfl, rfl⟩, rfl, rfl, ?_, ?_, FPa, WPa⟩
        · -- the row
          refine rr_new2 (s := Y.length) RW r0 (by omega) (fun a j q => ?_) ?_ ra (fun k kn => ?_) (fun j q => ?_) (fun i i0 i1 => ?_)
          · by_cases z : a = 23
            · exact FPa a j (fun y => by have := pkC_r y; omega)
            · rw [Fa a j (by unfold bcC; omega), F9 a j (by omega), F48 a j (by unfold hedC seC bgF boF; omega)]
              exact keep4 a j (Or.inl (by omega))
          · rw [Fa _ _ (by unfold bcC; omega), s9, b1]
          · rw [Wa 19 k (by omega), W9 19 k (by unfold ntM; omega), W8 19 k (by unfold omM; omega), W47 19 k (by unfold hedM omM; omega)]
            exact keepw4 _ _ (by omega)
          · rw [Wa 18 j (by omega), W9 18 j (by unfold ntM; omega), W8 18 j (by unfold omM; omega), W47 18 j (by unfold hedM omM; omega)]
            exact keepw4 _ _ (by omega)
          · have z1 := ba i.toNat (by omega)
            rw [slc_g _ _ _ _ (by omega), show ((i.toNat : Nat) : Int) = i by omega, Int.zero_add] at z1
            rw [z1, Fa _ _ (by unfold bcC; omega), c9 i i0 (by rw [b1]; exact i1), show (19 : Int) + 1 = 20 from rfl, b3 i i0 i1]
            exact ⟨rfl, bA _⟩
        · -- the entries
          obtain ⟨r1, r2, r3, r4, r5⟩ := p1
          obtain ⟨t1, t2, t3, t4, t5⟩ := q1
          have wa' : ∀ a j, ¬ (a = 18 ∨ a = 19) → wa a j = w9 a j := fun a j q => Wa a j (by omega)
          have h9' : ∀ j, h9 419 j = h8 419 j := fun j => F9 _ _ (by omega)
          have h8' : ∀ a j, 419 ≤ a ∧ a ≤ 423 → h8 a j = h7 a j := fun a j q => F8 a j (by unfold boF; omega)
          have h7' : ∀ j, h7 419 j = h6 419 j := fun j => F7 _ _ (by unfold bgF; omega)
          refine ⟨?_, ?_, ?_, ?_, ?_, ?_, fun i i0 i1 => ?_⟩
          · rw [t1, h9', h8' _ _ (by omega), wa' _ _ (by omega), r1, F47 _ _ (by unfold hedC seC bgF; omega)]; exact e04
          · rw [wa' _ _ (by omega), r1]; exact c40
          · rw [t2, h9', h8' _ _ (by omega), wa' _ _ (by omega), r2, F47 _ _ (by unfold hedC seC bgF; omega)]; exact e74
          · rw [t3, h9', h8' _ _ (by omega), wa' _ _ (by omega), r3, h7', c86.1, W8 _ _ (by unfold omM; omega), W47 _ _ (by unfold hedM omM; omega), y4 _ _ (by omega), P3.1, x4 _ _ (by omega)]; exact b4.2.1
          · rw [t4, h9', h8' _ _ (by omega), wa' _ _ (by omega), r4, h7']; exact c86.2.1
          · rw [t5, h9', h8' _ _ (by omega), wa' _ _ (by omega), r5, h7']; exact c86.2.2
          · rw [wa' _ _ (by omega), r1] at i1
            obtain ⟨u1, u2, u3, u4⟩ := q2 i i0 (by omega)
            obtain ⟨s1, s2, s3, s4⟩ := p2 i i0 i1
            obtain ⟨g1, ⟨g2', -, -⟩, ⟨g3, -, -⟩, ⟨g4, -, -⟩⟩ := ED4.2.2.2 i i0 i1
            have hh : ∀ a, 420 ≤ a ∧ a ≤ 423 → h9 a i = h4 a i := fun a q => by rw [F9 _ _ (by omega), h8' _ _ (by omega), F47 _ _ (by unfold hedC seC bgF; omega)]
            have ww : ∀ a, 102 ≤ a ∧ a ≤ 105 → w8 a i = w4 a i := fun a q => by rw [W8 _ _ (by unfold omM; omega), W47 _ _ (by unfold hedM omM; omega)]
            rw [wa' 96 _ (by omega), wa' 97 _ (by omega), wa' 98 _ (by omega), wa' 99 _ (by omega), u1, u2, u3, u4, s1, s2, s3, s4, hh _ (by omega), hh _ (by omega), hh _ (by omega), hh _ (by omega), ww _ (by omega), ww _ (by omega), ww _ (by omega), ww _ (by omega)]
            exact ⟨g1, g2', g3, g4⟩
  by_cases o1 : one1 M < 0
  · refine J_posL (by omega) (J_posR o1 (J_andL (Or.inr trivial) ?_))
    refine p_fonts (KL := fun Q => kV (thr _) _) (KM := fun Q => Q) R2 E2 cond1 K1' (fun a j q => by rw [F56 a j (by unfold hedC seC bgF; omega)]; exact f04 a j q) (fun a j q => by rw [W56 a j (by unfold hedM omM; omega)]; exact g04 a j q) e76 (by omega) S6 (by omega) ?_
    intro h7 w7 L7 o10 S7 l7 F7 W7
    try simp only [e_kVv]
    exact pend h7 w7 L7 o10 S7 (by omega) F7 W7
  · refine J_negL (by omega) (J_negR o1 ?_)
    exact pend h6 w6 L6 none S6 (by omega) Fz_0 Fz_0
end
