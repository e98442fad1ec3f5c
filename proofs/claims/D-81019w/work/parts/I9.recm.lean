set_option maxRecDepth 100000
theorem gclr_0 {h : Mem} : gclr h 366 366 0 = 0 ∧ gclr h 366 366 2 = 0 ∧ gclr h 366 366 3 = 0 ∧ gclr h 366 366 8 = 0 ∧ gclr h 366 379 1 = 0 ∧ ∀ t, 0 ≤ t → t < 4 → gclr h 366 367 t = 0 := by
  unfold gclr
  refine ⟨?_, ?_, ?_, ?_, ?_, fun t t0 t1 => ?_⟩
  · simp only [psh, st_ap, flt_ap, fil_ap, eq_self, and_true, true_and, and_self, false_and, and_false, ↓reduceIte, Int.reduceEq, Int.reduceAdd, Int.reduceSub, Int.reduceMul, Int.reduceLT, Int.reduceLE, false_imp_iff, true_imp_iff, implies_true]
  · simp only [psh, st_ap, flt_ap, fil_ap, eq_self, and_true, true_and, and_self, false_and, and_false, ↓reduceIte, Int.reduceEq, Int.reduceAdd, Int.reduceSub, Int.reduceMul, Int.reduceLT, Int.reduceLE, false_imp_iff, true_imp_iff, implies_true]
  · simp only [psh, st_ap, flt_ap, fil_ap, eq_self, and_true, true_and, and_self, false_and, and_false, ↓reduceIte, Int.reduceEq, Int.reduceAdd, Int.reduceSub, Int.reduceMul, Int.reduceLT, Int.reduceLE, false_imp_iff, true_imp_iff, implies_true]
  · simp only [psh, st_ap, flt_ap, fil_ap, eq_self, and_true, true_and, and_self, false_and, and_false, ↓reduceIte, Int.reduceEq, Int.reduceAdd, Int.reduceSub, Int.reduceMul, Int.reduceLT, Int.reduceLE, false_imp_iff, true_imp_iff, implies_true]
  · simp only [psh, st_ap, flt_ap, fil_ap, eq_self, and_true, true_and, and_self, false_and, and_false, ↓reduceIte, Int.reduceEq, Int.reduceAdd, Int.reduceSub, Int.reduceMul, Int.reduceLT, Int.reduceLE, false_imp_iff, true_imp_iff, implies_true]
  · have : t = 0 ∨ t = 1 ∨ t = 2 ∨ t = 3 := by omega
    rcases this with e | e | e | e <;> (subst e; simp only [psh, st_ap, flt_ap, fil_ap, eq_self, and_true, true_and, and_self, false_and, and_false, ↓reduceIte, Int.reduceEq, Int.reduceAdd, Int.reduceSub, Int.reduceMul, Int.reduceLT, Int.reduceLE, false_imp_iff, true_imp_iff, implies_true])
theorem gclr_g {h : Mem} : Fz glC h (gclr h 366) := fun p j g => gclr_fr (by unfold glC at g; omega)
/-- the body of a record is right, and ends at a1 -/
def RBY (f : Int → Int) (a z al a1 : Int) : Prop := (i2s (u2f f a) = -1 ∧ ∃ c b fl : Int, prp f z al 17 0 (a + 2 + 8) 0 = some (c, b, fl) ∧ ((fl = 0 ∧ a1 = b) ∨ (fl = 1 ∧ rcp f b z = some a1))) ∨ ((1 ≤ i2s (u2f f a) ∧ i2s (u2f f a) ≤ 32) ∧ OLR f (a + 2 + 8) z (i2s (u2f f a)) a1)
theorem OLR_u {f : Int → Int} {a z F a1 a2 : Int} (p : OLR f a z F a1) (q : OLR f a z F a2) : a1 = a2 := by
  obtain ⟨-, -, b1, g, b2, b3, p1, p2, p3, p4⟩ := p
  obtain ⟨-, -, c1, g', c2, c3, q1, q2, q3, q4⟩ := q
  cases p1.symm.trans q1
  cases p2.symm.trans q2
  cases p3.symm.trans q3
  cases p4.symm.trans q4
  rfl
/-- the record from a to z is right -/
def REC (f : Int → Int) (a z al : Int) : Prop := a = z ∨ (10 ≤ z - a ∧ ∃ a1, RBY f a z al a1 ∧ TLZ f a1 z)
section
variable {A B : Qt → Prop} {Φ : Out → Int → Mem → Out → Int → Mem → Prop} {KL KM : Qt → Qt} {n m : Int} {h w : Mem} {f : Int → Int} {k b a z x al : Int}
/-- A RECORD (157 / 364) -/
theorem p_record (k0 : 0 ≤ k ∧ k < 112) (b0 : 0 ≤ b ∧ b < 120) (a0 : 0 ≤ a ∧ a ≤ z ∧ z ≤ 12000) (sh : ∀ i, 0 ≤ i → i < z → h (29 + 2 * k) i = f i) (sw : ∀ i, 0 ≤ i → i < z → w 52 (12000 * b + i) = f i) (bf : ∀ i, 0 ≤ i → i < z → -128 ≤ f i ∧ f i ≤ 127) (ea : w 17 70 = al ∧ 1 ≤ al ∧ al ≤ 64)
    (ok : ∀ h1 w1 : Mem, REC f a z al → GRD al h1 w1 → Fz glC h h1 → Fz glM w w1 → J2 (fun Q => KL Q (.inl (some (vI 1))) n h1) (fun Q => KM Q (.inl (some (vI 1))) m w1) Φ)
    (bad : ∀ h1 w1 : Mem, ¬ REC f a z al → Fz glC h h1 → Fz glM w w1 → J2 (fun Q => KL Q (.inl (some (vI 0))) n h1) (fun Q => KM Q (.inl (some (vI 0))) m w1) Φ) :
    J2 (fun Q => T gC 157 [vR 23 366, vR 2 (28 + 2 * k), vI a, vI z, vI al] n h (KL Q)) (fun Q => T gM 364 [vR 33 17, vI b, vI a, vI z] m w (KM Q)) Φ := by
  refine J_impL (fun Q hq => T_go (md := true) [some (vR 23 366), some (vR 2 (28 + 2 * k)), some (vI a), some (vI z), some (vI al), none] [49, 163] 99 (by decide) rfl (Nat.le_of_ble_eq_true rfl) GC FC rfl k157 hq) ?_
  refine J_impR (fun Q hq => T_go (md := true) [some (vR 33 17), some (vI b), some (vI a), some (vI z), none] [49, 139] 99 (by decide) rfl (Nat.le_of_ble_eq_true rfl) GM FM rfl k364 hq) ?_
  simp -implicitDefEqProofs only [r_iconst, r_bipush, r_sipush, r_ldc, r_ldc_w, r_lconst, r_ldc2_w, r_aconst_null, r_iload, r_iload_n, r_lload, r_lload_n, r_aload, r_aload_n, r_istore, r_istore_n, r_lstore, r_lstore_n, r_astore, r_astore_n, r_iinc, r_iadd, r_iaddW, r_isub, r_isubW, r_imul, r_imulW, r_ladd, r_laddW, r_lsub, r_lsubW, r_lmul, r_lmulW, r_iand, r_ior, r_ishl, r_ishr, r_iushr, r_land, r_lor, r_lshl, r_lshr, r_lushr, r_idiv, r_irem, r_ldiv, r_lrem, r_lcmp, r_ineg, r_i2l, r_l2i, r_i2b, r_i2s, r_i2c, r_dup, r_pop, r_dup_x1, r_dup_x2, r_dup2, r_dup2L, r_icmp_eq, r_icmp_ne, r_icmp_lt, r_icmp_ge, r_icmp_gt, r_icmp_le, r_if_eq, r_if_ne, r_if_lt, r_if_ge, r_if_gt, r_if_le, r_acmp_eq, r_acmp_ne, r_ifnull, r_ifnonnull, r_goto, r_nop, r_tsw, r_lsw, r_getfield, r_getfinal, r_putfield, r_getstaticL, r_getstaticR, r_iaload, r_baload, r_saload, r_laload, r_aaload, r_aaloadM, r_iastore, r_bastore, r_zastore, r_sastore, r_lastore, r_aastore, r_alen, r_new, r_newarray, r_anewarray, r_invV, r_invI, r_objI, r_invS, r_acp, r_ireturn, r_zreturn, r_lreturn, r_return, r_areturn, r_athrow, ↓e_pI, ↓e_pL, ↓e_pR, ↓e_lg0, ↓e_lg1, ↓e_tk0, ↓e_tkI0, ↓e_tkI1, ↓e_tkI2, ↓e_tkI3, ↓e_tkI4, ↓e_tkL, ↓e_tkR0_0, ↓e_tkR0_1, ↓e_tkR1_0, ↓e_tkR1_1, ↓e_tkR2_0, ↓e_tkR2_1, ↓e_tkR3_0, ↓e_tkR3_1, ↓e_tkR4_0, ↓e_tkR4_1, ↓e_tkR5_0, ↓e_tkR5_1, ↓e_tkR6_0, ↓e_tkR6_1, ↓e_tkR7_0, ↓e_tkR7_1, ↓e_tkR8_0, ↓e_tkR8_1, ↓e_tkR9_0, ↓e_tkR9_1, ↓e_tkR10_0, ↓e_tkR10_1, ↓e_tkR11_0, ↓e_tkR11_1, ↓e_tkR12_0, ↓e_tkR12_1, ↓e_tkR13_0, ↓e_tkR13_1, ↓e_tkR14_0, ↓e_tkR14_1, ↓e_tkR15_0, ↓e_tkR15_1, ↓e_tkR16_0, ↓e_tkR16_1, ↓e_tkR17_0, ↓e_tkR17_1, ↓e_tkR39_0, ↓e_tkR39_1, ↓e_tkR40_0, ↓e_tkR40_1, ↓e_tkR41_0, ↓e_tkR41_1, ↓e_tkR42_0, ↓e_tkR42_1, ↓e_tkR43_0, ↓e_tkR43_1, ↓e_tkR44_0, ↓e_tkR44_1, ↓e_tkR45_0, ↓e_tkR45_1, ↓e_tkR46_0, ↓e_tkR46_1, ↓e_tkR47_0, ↓e_tkR47_1, ↓e_tkR48_0, ↓e_tkR48_1, ↓e_pv0, ↓e_pv1, ↓e_pv2, ↓e_pv3, ↓e_pv5, ↓e_pvR, ↓e_tsw0, ↓e_tsw1, ↓e_lsw0, ↓e_lsw1, e_kq100, e_kq0, e_kq3, e_kq5, e_kqR0, e_kqR1, e_kqR2, e_kqR3, e_kqR4, e_kqR5, e_kqR6, e_kqR7, e_kqR8, e_kqR9, e_kqR10, e_kqR11, e_kqR12, e_kqR13, e_kqR14, e_kqR15, e_kqR16, e_kqR17, e_kqR39, e_kqR40, e_kqR41, e_kqR42, e_kqR43, e_kqR44, e_kqR45, e_kqR46, e_kqR47, e_kqR48, e_st0I, e_st0R, e_st0L, e_st1N, e_st1I, e_st1L, e_st1R, e_st2, e_wd0, e_wdI, e_wdL, e_wdR, e_c1I, e_c1R, e_gv0, e_gv1, e_gv2, e_gv3, e_gv4, e_gv5, e_gvR0, e_gvR1, e_gvR2, e_gvR3, e_gvR4, e_gvR5, e_gvR6, e_gvR7, e_gvR8, e_gvR9, e_gvR10, e_gvR11, e_gvR12, e_gvR13, e_gvR14, e_gvR15, e_gvR16, e_gvR17, e_gvR39, e_gvR40, e_gvR41, e_gvR42, e_gvR43, e_gvR44, e_gvR45, e_gvR46, e_gvR47, e_gvR48, e_kX0, e_kX1, e_kVv, e_kVx, e_kIv, e_kIx, e_kLv, e_kLx, e_kRv, e_kRx, e_thr, e_lk1, e_ic0, e_ic1, e_jm, st_ap, clr_ap, e_lceq, e_lclt, e_lcgt, nn, ↓reduceIte, Nat.reduceDiv, Nat.reduceMod, Nat.reduceMul, Nat.reduceAdd, Nat.reduceEqDiff, Nat.reduceLeDiff, Int.reduceNatCast, Int.cast_ofNat_Int, Int.reduceSub, Int.reduceMul, Int.reduceNeg, Int.reduceAdd, Int.reduceLE, Int.reduceLT, Int.reduceEq, Int.reduceNe, true_and, and_true, true_or, and_self, ne_eq, not_false_eq_true, Bool.false_eq_true, reduceCtorEq, rd_l1, rd_l2, rd_l3, rd_l4, rd_l5, rd_l6, rd_l7, rd_l8, rd_l9, SB, rd_ge, i2b_2, false_and, and_false, not_true_eq_false, l157_0, l157_11, l157_37, l157_49, l157_73, l157_109, l157_113, l157_117, l157_143, l157_144, l157_161, l157_163, l157_180, s157_0, s157_11, s157_37, s157_49, s157_73, s157_109, s157_113, s157_117, s157_143, s157_144, s157_161, s157_163, s157_180, l364_0, l364_11, l364_37, l364_49, l364_73, l364_97, l364_99, l364_113, l364_117, l364_137, l364_139, l364_159, s364_0, s364_11, s364_37, s364_49, s364_73, s364_97, s364_99, s364_113, s364_117, s364_137, s364_139, s364_159, zC_18, zC_20, zC_21, zC_22, zC_23, zC_25, zC_26, zC_253, zC_254, zC_256, zC_257, zC_259, zC_260, zC_262, zC_263, zC_265, zC_266, zC_268, zC_269, zC_271, zC_272, zC_274, zC_275, zC_278, zC_279, zC_280, zC_281, zC_282, zC_284, zC_285, zC_287, zC_288, zC_290, zC_291, zC_293, zC_294, zC_296, zC_297, zC_299, zC_300, zC_302, zC_303, zC_304, zC_305, zC_306, zC_307, zC_308, zC_309, zC_310, zC_311, zC_312, zC_315, zC_316, zC_317, zC_319, zC_320, zC_321, zC_323, zC_324, zC_325, zC_327, zC_328, zC_329, zC_331, zC_332, zC_333, zC_335, zC_336, zC_337, zC_339, zC_340, zC_341, zC_343, zC_344, zC_345, zC_347, zC_348, zC_349, zC_350, zC_351, zC_352, zC_353, zC_354, zC_355, zC_356, zC_357, zC_358, zC_359, zC_361, zC_362, zC_363, zC_364, zC_367, zC_368, zC_369, zC_370, zC_371, zC_372, zC_373, zC_374, zC_375, zC_376, zC_378, zC_380, zC_381, zC_383, zC_384, zC_386, zC_387, zC_389, zC_390, zC_391, zC_392, zC_393, zC_394, zC_395, zC_396, zC_397, zC_398, zC_400, zC_402, zC_403, zC_405, zC_407, zC_409, zC_411, zC_413, zC_415, zC_417, zC_420, zC_421, zC_422, zC_423, zC_424, zC_425, zC_427, zC_429, zC_431, zC_433, zC_436, zC_437, zC_438, zC_439, zC_440, zC_441, zC_442, zC_443, zC_444, zC_445, zC_447, zC_448, zC_450, zC_451, zC_453, zC_454, zC_455, zC_456, zC_457, zC_458, zC_460, zC_461, zC_462, zC_463, zC_464, zC_465, zC_466, zC_467, zC_468, zC_469, zC_471, zC_473, zC_474, zC_476, zC_477, zC_478, zC_479, zC_480, zC_481, zC_482, zC_483, zC_484, zC_485, zC_487, zC_489, zC_490, zC_491, zC_493, zC_495, zC_497, zC_499, zM_18, zM_19, zM_20, zM_21, zM_22, zM_23, zM_24, zM_25, zM_26, zM_27, zM_28, zM_29, zM_30, zM_31, zM_32, zM_33, zM_34, zM_35, zM_36, zM_37, zM_38, zM_39, zM_40, zM_41, zM_42, zM_43, zM_44, zM_45, zM_46, zM_47, zM_48, zM_49, zM_50, zM_51, zM_52, zM_53, zM_54, zM_55, zM_56, zM_57, zM_58, zM_59, zM_60, zM_61, zM_62, zM_63, zM_64, zM_65, zM_66, zM_67, zM_68, zM_69, zM_70, zM_71, zM_72, zM_73, zM_74, zM_75, zM_76, zM_77, zM_78, zM_79, zM_80, zM_81, zM_82, zM_83, zM_84, zM_85, zM_86, zM_87, zM_88, zM_89, zM_90, zM_91, zM_92, zM_93, zM_94, zM_95, zM_96, zM_97, zM_98, zM_99, zM_100, zM_101, zM_102, zM_103, zM_104, zM_105, zM_106, zM_107, zM_108, zM_109, zM_110, zM_111, zM_112, zM_113, zM_114, zM_115, zM_116, zM_117, zM_118, zM_119]
  refine J_LV (c_gclear (o := 366) (by omega) (by decide +kernel)) ?_
  refine m_empty ?_
  intro w1 e73 e74 e75 e76 e77 e78 e69 W1
  try simp only [e_kVv]
  obtain ⟨c0, c2, c3, c8, c9, ct⟩ := gclr_0 (h := h)
  have C1 : Fz glC h (gclr h 366) := gclr_g
  revert C1; revert ct; revert c9; revert c8; revert c3; revert c2; revert c0
  generalize gclr h 366 = h1
  intro c0 c2 c3 c8 c9 ct C1
  have W1' : Fz glM w w1 := Fz_mo W1 (fun p j q => by unfold glM; omega)
  by_cases q : a = z
  · repeat (first | refine J_andL (by first | omega | (constructor <;> omega)) ?_ | refine J_andR (by first | omega | (constructor <;> omega)) ?_ | refine J_posL (by first | omega | (constructor <;> omega)) ?_ | refine J_negL (by first | omega | (constructor <;> omega)) ?_ | refine J_posR (by first | omega | (constructor <;> omega)) ?_ | refine J_negR (by first | omega | (constructor <;> omega)) ?_)
    exact ok h1 w1 (Or.inl q) ⟨by rw [c0, e73], by omega, fun t t0 t1 => by rw [ct t t0 t1, e69 t t0 t1]; omega, Or.inl ⟨e73, c3, e74, e75, e76, ⟨by rw [c9, e77], by omega, fun i i0 i1 => by omega⟩, e77, c8, e78, c2, e69⟩⟩ C1 W1'
  repeat (first | refine J_andL (by first | omega | (constructor <;> omega)) ?_ | refine J_andR (by first | omega | (constructor <;> omega)) ?_ | refine J_posL (by first | omega | (constructor <;> omega)) ?_ | refine J_negL (by first | omega | (constructor <;> omega)) ?_ | refine J_posR (by first | omega | (constructor <;> omega)) ?_ | refine J_negR (by first | omega | (constructor <;> omega)) ?_)
  have G0 : GH f k a z (st (st (st h1 366 16 (28 + 2 * k)) 366 17 a) 366 18 z) := ⟨k0, by simp only [psh, st_ap, flt_ap, fil_ap, eq_self, and_true, true_and, and_self, false_and, and_false, ↓reduceIte, Int.reduceEq, Int.reduceAdd, Int.reduceSub, Int.reduceMul, Int.reduceLT, Int.reduceLE, false_imp_iff, true_imp_iff, implies_true], by simp only [psh, st_ap, flt_ap, fil_ap, eq_self, and_true, true_and, and_self, false_and, and_false, ↓reduceIte, Int.reduceEq, Int.reduceAdd, Int.reduceSub, Int.reduceMul, Int.reduceLT, Int.reduceLE, false_imp_iff, true_imp_iff, implies_true], by simp only [psh, st_ap, flt_ap, fil_ap, eq_self, and_true, true_and, and_self, false_and, and_false, ↓reduceIte, Int.reduceEq, Int.reduceAdd, Int.reduceSub, Int.reduceMul, Int.reduceLT, Int.reduceLE, false_imp_iff, true_imp_iff, implies_true], a0, fun i i0 i1 => by rw [st_na (by omega), st_na (by omega), st_na (by omega), C1 _ _ (by unfold glC; omega)]; exact sh i i0 i1⟩
  have M0 : GM9 f b a z (st (st (st w1 17 92 b) 17 93 a) 17 94 z) := ⟨b0, by simp only [psh, st_ap, flt_ap, fil_ap, eq_self, and_true, true_and, and_self, false_and, and_false, ↓reduceIte, Int.reduceEq, Int.reduceAdd, Int.reduceSub, Int.reduceMul, Int.reduceLT, Int.reduceLE, false_imp_iff, true_imp_iff, implies_true], by simp only [psh, st_ap, flt_ap, fil_ap, eq_self, and_true, true_and, and_self, false_and, and_false, ↓reduceIte, Int.reduceEq, Int.reduceAdd, Int.reduceSub, Int.reduceMul, Int.reduceLT, Int.reduceLE, false_imp_iff, true_imp_iff, implies_true], by simp only [psh, st_ap, flt_ap, fil_ap, eq_self, and_true, true_and, and_self, false_and, and_false, ↓reduceIte, Int.reduceEq, Int.reduceAdd, Int.reduceSub, Int.reduceMul, Int.reduceLT, Int.reduceLE, false_imp_iff, true_imp_iff, implies_true], a0, fun i i0 i1 => by rw [st_na (by omega), st_na (by omega), st_na (by omega), W1 _ _ (by omega)]; exact sw i i0 i1⟩
  have F0 : Fz (fun p j => p = 366 ∧ 16 ≤ j ∧ j ≤ 18) h1 (st (st (st h1 366 16 (28 + 2 * k)) 366 17 a) 366 18 z) := Fz_st (Fz_st (Fz_st Fz_0 (by omega)) (by omega)) (by omega)
  have V0 : Fz (fun p j => p = 17 ∧ 92 ≤ j ∧ j ≤ 94) w1 (st (st (st w1 17 92 b) 17 93 a) 17 94 z) := Fz_st (Fz_st (Fz_st Fz_0 (by omega)) (by omega)) (by omega)
  revert V0; revert F0; revert M0; revert G0
  generalize (st (st (st h1 366 16 (28 + 2 * k)) 366 17 a) 366 18 z) = h2
  generalize (st (st (st w1 17 92 b) 17 93 a) 17 94 z) = w2
  intro G0 M0 F0 V0
  have C2 : Fz glC h h2 := Fz_tr C1 (Fz_mo F0 (fun p j q => by unfold glC; omega))
  have W2 : Fz glM w w2 := Fz_tr W1' (Fz_mo V0 (fun p j q => by unfold glM; omega))
  refine J_LI (c_ghas G0 (by omega)) (J_RI (m_ghas M0 (by omega)) ?_)
  by_cases q10 : 10 ≤ z - a
  · rw [bz_t q10]
    repeat (first | refine J_andL (by first | omega | (constructor <;> omega)) ?_ | refine J_andR (by first | omega | (constructor <;> omega)) ?_ | refine J_posL (by first | omega | (constructor <;> omega)) ?_ | refine J_negL (by first | omega | (constructor <;> omega)) ?_ | refine J_posR (by first | omega | (constructor <;> omega)) ?_ | refine J_negR (by first | omega | (constructor <;> omega)) ?_)
    refine J_LI (c_gtwo G0 (by omega)) (J_RI (m_gtwo M0 (by omega)) ?_)
    have sr := i2s_r (u2f f a)
    have recE : ∀ {X : Prop}, (∀ a1, RBY f a z al a1 → TLZ f a1 z → X) → REC f a z al → X := by
      intro X hx hr
      rcases hr with e | ⟨-, a1, r1, r2⟩
      · exact absurd e q
      · exact hx a1 r1 r2
    have mkr : ∀ a1, RBY f a z al a1 → TLZ f a1 z → REC f a z al := fun a1 r1 r2 => Or.inr ⟨q10, a1, r1, r2⟩
    have rby : ∀ a1, RBY f a z al a1 → RBY f a z al a1 := fun _ r => r
    unfold RBY at recE mkr rby
    generalize i2s (u2f f a) = F at sr recE mkr rby ⊢
    have G1 := GH_s (v := F) (p := 366) (j := 0) (GH_a G0 (a + 2) (by omega)) (by omega)
    have M1 := GM_s (v := F) (p := 17) (j := 73) (GM_a M0 (a + 2) (by omega)) (by omega)
    have F1 : Fz (fun p j => p = 366 ∧ (j = 0 ∨ 16 ≤ j ∧ j ≤ 18)) h1 (st (st h2 366 17 (a + 2)) 366 0 F) := Fz_st (Fz_st (Fz_mo F0 (fun p j q => by omega)) (by omega)) (by omega)
    have V1 : Fz (fun p j => p = 17 ∧ (j = 73 ∨ 92 ≤ j ∧ j ≤ 94)) w1 (st (st w2 17 93 (a + 2)) 17 73 F) := Fz_st (Fz_st (Fz_mo V0 (fun p j q => by omega)) (by omega)) (by omega)
    have eF : st (st h2 366 17 (a + 2)) 366 0 F 366 0 = F ∧ st (st w2 17 93 (a + 2)) 17 73 F 17 73 = F := ⟨st_eq _ _ _ _, st_eq _ _ _ _⟩
    revert eF; revert V1; revert F1; revert M1; revert G1
    generalize st (st h2 366 17 (a + 2)) 366 0 F = h3
    generalize st (st w2 17 93 (a + 2)) 17 73 F = w3
    intro G1 M1 F1 V1 eF
    refine p_rbox G1 M1 (by omega) ?_
    intro h4 w4 G4 M4 BX F4 V4
    have eF4 : h4 366 0 = F ∧ w4 17 73 = F := ⟨by rw [F4 _ _ (by omega)]; exact eF.1, by rw [V4 _ _ (by omega)]; exact eF.2⟩
    have o4 : ∀ p j, 366 ≤ p → p ≤ 381 → p ≠ 367 → (p = 366 → j ≠ 0 ∧ ¬ (16 ≤ j ∧ j ≤ 18)) → h4 p j = h1 p j := fun p j p0 p1 p2 p3 => by rw [F4 _ _ (by omega), F1 _ _ (by omega)]
    have v4 : ∀ j, 74 ≤ j → j ≤ 78 → w4 17 j = 0 := fun j j0 j1 => by
      rw [V4 _ _ (by omega), V1 _ _ (by omega)]
      have : j = 74 ∨ j = 75 ∨ j = 76 ∨ j = 77 ∨ j = 78 := by omega
      rcases this with e | e | e | e | e <;> (subst e; assumption)
    have e70 : w4 17 70 = al := by rw [V4 _ _ (by omega), V1 _ _ (by omega), W1 _ _ (by omega)]; exact ea.1
    have C4 : Fz glC h h4 := Fz_tr C1 (fun p j g => by unfold glC at g; rw [F4 _ _ (by omega), F1 _ _ (by omega)])
    have W4 : Fz glM w w4 := Fz_tr W1' (fun p j g => by unfold glM at g; rw [V4 _ _ (by omega), V1 _ _ (by omega)])
    have c94 : h4 379 1 = 0 := by rw [o4 _ _ (by omega) (by omega) (by omega) (by omega)]; exact c9
    have c34 : h4 366 3 = 0 := by rw [o4 _ _ (by omega) (by omega) (by omega) (by omega)]; exact c3
    have c84 : h4 366 8 = 0 := by rw [o4 _ _ (by omega) (by omega) (by omega) (by omega)]; exact c8
    have v74 := v4 74 (by omega) (by omega)
    have v75 := v4 75 (by omega) (by omega)
    have v76 := v4 76 (by omega) (by omega)
    have v77 := v4 77 (by omega) (by omega)
    have v78 := v4 78 (by omega) (by omega)
    clear o4 v4 F1 V1 F4 V4 c0 c2 c3 c8 c9 ct e69 e73 e74 e75 e76 e77 e78 W1 C1 W1' F0 V0 C2 W2 G0 M0 G1 M1 eF
    refine J_impL (fun Q hq => blk (md := true) [49, 163] 99 GC FC rfl k157 hq) ?_
    refine J_impR (fun Q hq => blk (md := true) [49, 139] 99 GM FM rfl k364 hq) ?_
    simp -implicitDefEqProofs only [r_iconst, r_bipush, r_sipush, r_ldc, r_ldc_w, r_lconst, r_ldc2_w, r_aconst_null, r_iload, r_iload_n, r_lload, r_lload_n, r_aload, r_aload_n, r_istore, r_istore_n, r_lstore, r_lstore_n, r_astore, r_astore_n, r_iinc, r_iadd, r_iaddW, r_isub, r_isubW, r_imul, r_imulW, r_ladd, r_laddW, r_lsub, r_lsubW, r_lmul, r_lmulW, r_iand, r_ior, r_ishl, r_ishr, r_iushr, r_land, r_lor, r_lshl, r_lshr, r_lushr, r_idiv, r_irem, r_ldiv, r_lrem, r_lcmp, r_ineg, r_i2l, r_l2i, r_i2b, r_i2s, r_i2c, r_dup, r_pop, r_dup_x1, r_dup_x2, r_dup2, r_dup2L, r_icmp_eq, r_icmp_ne, r_icmp_lt, r_icmp_ge, r_icmp_gt, r_icmp_le, r_if_eq, r_if_ne, r_if_lt, r_if_ge, r_if_gt, r_if_le, r_acmp_eq, r_acmp_ne, r_ifnull, r_ifnonnull, r_goto, r_nop, r_tsw, r_lsw, r_getfield, r_getfinal, r_putfield, r_getstaticL, r_getstaticR, r_iaload, r_baload, r_saload, r_laload, r_aaload, r_aaloadM, r_iastore, r_bastore, r_zastore, r_sastore, r_lastore, r_aastore, r_alen, r_new, r_newarray, r_anewarray, r_invV, r_invI, r_objI, r_invS, r_acp, r_ireturn, r_zreturn, r_lreturn, r_return, r_areturn, r_athrow, ↓e_pI, ↓e_pL, ↓e_pR, ↓e_lg0, ↓e_lg1, ↓e_tk0, ↓e_tkI0, ↓e_tkI1, ↓e_tkI2, ↓e_tkI3, ↓e_tkI4, ↓e_tkL, ↓e_tkR0_0, ↓e_tkR0_1, ↓e_tkR1_0, ↓e_tkR1_1, ↓e_tkR2_0, ↓e_tkR2_1, ↓e_tkR3_0, ↓e_tkR3_1, ↓e_tkR4_0, ↓e_tkR4_1, ↓e_tkR5_0, ↓e_tkR5_1, ↓e_tkR6_0, ↓e_tkR6_1, ↓e_tkR7_0, ↓e_tkR7_1, ↓e_tkR8_0, ↓e_tkR8_1, ↓e_tkR9_0, ↓e_tkR9_1, ↓e_tkR10_0, ↓e_tkR10_1, ↓e_tkR11_0, ↓e_tkR11_1, ↓e_tkR12_0, ↓e_tkR12_1, ↓e_tkR13_0, ↓e_tkR13_1, ↓e_tkR14_0, ↓e_tkR14_1, ↓e_tkR15_0, ↓e_tkR15_1, ↓e_tkR16_0, ↓e_tkR16_1, ↓e_tkR17_0, ↓e_tkR17_1, ↓e_tkR39_0, ↓e_tkR39_1, ↓e_tkR40_0, ↓e_tkR40_1, ↓e_tkR41_0, ↓e_tkR41_1, ↓e_tkR42_0, ↓e_tkR42_1, ↓e_tkR43_0, ↓e_tkR43_1, ↓e_tkR44_0, ↓e_tkR44_1, ↓e_tkR45_0, ↓e_tkR45_1, ↓e_tkR46_0, ↓e_tkR46_1, ↓e_tkR47_0, ↓e_tkR47_1, ↓e_tkR48_0, ↓e_tkR48_1, ↓e_pv0, ↓e_pv1, ↓e_pv2, ↓e_pv3, ↓e_pv5, ↓e_pvR, ↓e_tsw0, ↓e_tsw1, ↓e_lsw0, ↓e_lsw1, e_kq100, e_kq0, e_kq3, e_kq5, e_kqR0, e_kqR1, e_kqR2, e_kqR3, e_kqR4, e_kqR5, e_kqR6, e_kqR7, e_kqR8, e_kqR9, e_kqR10, e_kqR11, e_kqR12, e_kqR13, e_kqR14, e_kqR15, e_kqR16, e_kqR17, e_kqR39, e_kqR40, e_kqR41, e_kqR42, e_kqR43, e_kqR44, e_kqR45, e_kqR46, e_kqR47, e_kqR48, e_st0I, e_st0R, e_st0L, e_st1N, e_st1I, e_st1L, e_st1R, e_st2, e_wd0, e_wdI, e_wdL, e_wdR, e_c1I, e_c1R, e_gv0, e_gv1, e_gv2, e_gv3, e_gv4, e_gv5, e_gvR0, e_gvR1, e_gvR2, e_gvR3, e_gvR4, e_gvR5, e_gvR6, e_gvR7, e_gvR8, e_gvR9, e_gvR10, e_gvR11, e_gvR12, e_gvR13, e_gvR14, e_gvR15, e_gvR16, e_gvR17, e_gvR39, e_gvR40, e_gvR41, e_gvR42, e_gvR43, e_gvR44, e_gvR45, e_gvR46, e_gvR47, e_gvR48, e_kX0, e_kX1, e_kVv, e_kVx, e_kIv, e_kIx, e_kLv, e_kLx, e_kRv, e_kRx, e_thr, e_lk1, e_ic0, e_ic1, e_jm, st_ap, clr_ap, e_lceq, e_lclt, e_lcgt, nn, ↓reduceIte, Nat.reduceDiv, Nat.reduceMod, Nat.reduceMul, Nat.reduceAdd, Nat.reduceEqDiff, Nat.reduceLeDiff, Int.reduceNatCast, Int.cast_ofNat_Int, Int.reduceSub, Int.reduceMul, Int.reduceNeg, Int.reduceAdd, Int.reduceLE, Int.reduceLT, Int.reduceEq, Int.reduceNe, true_and, and_true, true_or, and_self, ne_eq, not_false_eq_true, Bool.false_eq_true, reduceCtorEq, rd_l1, rd_l2, rd_l3, rd_l4, rd_l5, rd_l6, rd_l7, rd_l8, rd_l9, SB, rd_ge, i2b_2, false_and, and_false, not_true_eq_false, l157_0, l157_11, l157_37, l157_49, l157_73, l157_109, l157_113, l157_117, l157_143, l157_144, l157_161, l157_163, l157_180, s157_0, s157_11, s157_37, s157_49, s157_73, s157_109, s157_113, s157_117, s157_143, s157_144, s157_161, s157_163, s157_180, l364_0, l364_11, l364_37, l364_49, l364_73, l364_97, l364_99, l364_113, l364_117, l364_137, l364_139, l364_159, s364_0, s364_11, s364_37, s364_49, s364_73, s364_97, s364_99, s364_113, s364_117, s364_137, s364_139, s364_159, zC_18, zC_20, zC_21, zC_22, zC_23, zC_25, zC_26, zC_253, zC_254, zC_256, zC_257, zC_259, zC_260, zC_262, zC_263, zC_265, zC_266, zC_268, zC_269, zC_271, zC_272, zC_274, zC_275, zC_278, zC_279, zC_280, zC_281, zC_282, zC_284, zC_285, zC_287, zC_288, zC_290, zC_291, zC_293, zC_294, zC_296, zC_297, zC_299, zC_300, zC_302, zC_303, zC_304, zC_305, zC_306, zC_307, zC_308, zC_309, zC_310, zC_311, zC_312, zC_315, zC_316, zC_317, zC_319, zC_320, zC_321, zC_323, zC_324, zC_325, zC_327, zC_328, zC_329, zC_331, zC_332, zC_333, zC_335, zC_336, zC_337, zC_339, zC_340, zC_341, zC_343, zC_344, zC_345, zC_347, zC_348, zC_349, zC_350, zC_351, zC_352, zC_353, zC_354, zC_355, zC_356, zC_357, zC_358, zC_359, zC_361, zC_362, zC_363, zC_364, zC_367, zC_368, zC_369, zC_370, zC_371, zC_372, zC_373, zC_374, zC_375, zC_376, zC_378, zC_380, zC_381, zC_383, zC_384, zC_386, zC_387, zC_389, zC_390, zC_391, zC_392, zC_393, zC_394, zC_395, zC_396, zC_397, zC_398, zC_400, zC_402, zC_403, zC_405, zC_407, zC_409, zC_411, zC_413, zC_415, zC_417, zC_420, zC_421, zC_422, zC_423, zC_424, zC_425, zC_427, zC_429, zC_431, zC_433, zC_436, zC_437, zC_438, zC_439, zC_440, zC_441, zC_442, zC_443, zC_444, zC_445, zC_447, zC_448, zC_450, zC_451, zC_453, zC_454, zC_455, zC_456, zC_457, zC_458, zC_460, zC_461, zC_462, zC_463, zC_464, zC_465, zC_466, zC_467, zC_468, zC_469, zC_471, zC_473, zC_474, zC_476, zC_477, zC_478, zC_479, zC_480, zC_481, zC_482, zC_483, zC_484, zC_485, zC_487, zC_489, zC_490, zC_491, zC_493, zC_495, zC_497, zC_499, zM_18, zM_19, zM_20, zM_21, zM_22, zM_23, zM_24, zM_25, zM_26, zM_27, zM_28, zM_29, zM_30, zM_31, zM_32, zM_33, zM_34, zM_35, zM_36, zM_37, zM_38, zM_39, zM_40, zM_41, zM_42, zM_43, zM_44, zM_45, zM_46, zM_47, zM_48, zM_49, zM_50, zM_51, zM_52, zM_53, zM_54, zM_55, zM_56, zM_57, zM_58, zM_59, zM_60, zM_61, zM_62, zM_63, zM_64, zM_65, zM_66, zM_67, zM_68, zM_69, zM_70, zM_71, zM_72, zM_73, zM_74, zM_75, zM_76, zM_77, zM_78, zM_79, zM_80, zM_81, zM_82, zM_83, zM_84, zM_85, zM_86, zM_87, zM_88, zM_89, zM_90, zM_91, zM_92, zM_93, zM_94, zM_95, zM_96, zM_97, zM_98, zM_99, zM_100, zM_101, zM_102, zM_103, zM_104, zM_105, zM_106, zM_107, zM_108, zM_109, zM_110, zM_111, zM_112, zM_113, zM_114, zM_115, zM_116, zM_117, zM_118, zM_119]
    rw [eF4.1, eF4.2]
    have G5 := GH_s (v := 1) (p := 366) (j := 2) G4 (by omega)
    have C5 : Fz glC h (st h4 366 2 1) := Fz_st C4 (by unfold glC; omega)
    have eF5 : st h4 366 2 1 366 0 = F := by rw [st_nj (by omega)]; exact eF4.1
    have c95 : st h4 366 2 1 379 1 = 0 := by rw [st_na (by omega)]; exact c94
    have c35 : st h4 366 2 1 366 3 = 0 := by rw [st_nj (by omega)]; exact c34
    have c85 : st h4 366 2 1 366 8 = 0 := by rw [st_nj (by omega)]; exact c84
    have c25 : st h4 366 2 1 366 2 = 1 := st_eq _ _ _ _
    have BX5 : ∀ t, 0 ≤ t → t < 4 → st h4 366 2 1 367 t = w4 69 t ∧ -32768 ≤ w4 69 t ∧ w4 69 t ≤ 32767 := fun t t0 t1 => by rw [st_na (by omega)]; exact BX t t0 t1
    revert BX5; revert c25; revert c85; revert c35; revert c95; revert eF5; revert C5; revert G5
    generalize st h4 366 2 1 = h5
    intro G5 C5 eF5 c95 c35 c85 c25 BX5
    by_cases qm : F = -1
    · -- parts
      subst qm
      repeat (first | refine J_andL (by first | omega | (constructor <;> omega)) ?_ | refine J_andR (by first | omega | (constructor <;> omega)) ?_ | refine J_posL (by first | omega | (constructor <;> omega)) ?_ | refine J_negL (by first | omega | (constructor <;> omega)) ?_ | refine J_posR (by first | omega | (constructor <;> omega)) ?_ | refine J_negR (by first | omega | (constructor <;> omega)) ?_)
      refine J_impR (fun Q hq => T_go (md := true) [some (vR 33 17)] [] 99 (by decide) rfl (Nat.le_of_ble_eq_true rfl) GM FM rfl k373 hq) ?_
      simp -implicitDefEqProofs only [r_iconst, r_bipush, r_sipush, r_ldc, r_ldc_w, r_lconst, r_ldc2_w, r_aconst_null, r_iload, r_iload_n, r_lload, r_lload_n, r_aload, r_aload_n, r_istore, r_istore_n, r_lstore, r_lstore_n, r_astore, r_astore_n, r_iinc, r_iadd, r_iaddW, r_isub, r_isubW, r_imul, r_imulW, r_ladd, r_laddW, r_lsub, r_lsubW, r_lmul, r_lmulW, r_iand, r_ior, r_ishl, r_ishr, r_iushr, r_land, r_lor, r_lshl, r_lshr, r_lushr, r_idiv, r_irem, r_ldiv, r_lrem, r_lcmp, r_ineg, r_i2l, r_l2i, r_i2b, r_i2s, r_i2c, r_dup, r_pop, r_dup_x1, r_dup_x2, r_dup2, r_dup2L, r_icmp_eq, r_icmp_ne, r_icmp_lt, r_icmp_ge, r_icmp_gt, r_icmp_le, r_if_eq, r_if_ne, r_if_lt, r_if_ge, r_if_gt, r_if_le, r_acmp_eq, r_acmp_ne, r_ifnull, r_ifnonnull, r_goto, r_nop, r_tsw, r_lsw, r_getfield, r_getfinal, r_putfield, r_getstaticL, r_getstaticR, r_iaload, r_baload, r_saload, r_laload, r_aaload, r_aaloadM, r_iastore, r_bastore, r_zastore, r_sastore, r_lastore, r_aastore, r_alen, r_new, r_newarray, r_anewarray, r_invV, r_invI, r_objI, r_invS, r_acp, r_ireturn, r_zreturn, r_lreturn, r_return, r_areturn, r_athrow, ↓e_pI, ↓e_pL, ↓e_pR, ↓e_lg0, ↓e_lg1, ↓e_tk0, ↓e_tkI0, ↓e_tkI1, ↓e_tkI2, ↓e_tkI3, ↓e_tkI4, ↓e_tkL, ↓e_tkR0_0, ↓e_tkR0_1, ↓e_tkR1_0, ↓e_tkR1_1, ↓e_tkR2_0, ↓e_tkR2_1, ↓e_tkR3_0, ↓e_tkR3_1, ↓e_tkR4_0, ↓e_tkR4_1, ↓e_tkR5_0, ↓e_tkR5_1, ↓e_tkR6_0, ↓e_tkR6_1, ↓e_tkR7_0, ↓e_tkR7_1, ↓e_tkR8_0, ↓e_tkR8_1, ↓e_tkR9_0, ↓e_tkR9_1, ↓e_tkR10_0, ↓e_tkR10_1, ↓e_tkR11_0, ↓e_tkR11_1, ↓e_tkR12_0, ↓e_tkR12_1, ↓e_tkR13_0, ↓e_tkR13_1, ↓e_tkR14_0, ↓e_tkR14_1, ↓e_tkR15_0, ↓e_tkR15_1, ↓e_tkR16_0, ↓e_tkR16_1, ↓e_tkR17_0, ↓e_tkR17_1, ↓e_tkR39_0, ↓e_tkR39_1, ↓e_tkR40_0, ↓e_tkR40_1, ↓e_tkR41_0, ↓e_tkR41_1, ↓e_tkR42_0, ↓e_tkR42_1, ↓e_tkR43_0, ↓e_tkR43_1, ↓e_tkR44_0, ↓e_tkR44_1, ↓e_tkR45_0, ↓e_tkR45_1, ↓e_tkR46_0, ↓e_tkR46_1, ↓e_tkR47_0, ↓e_tkR47_1, ↓e_tkR48_0, ↓e_tkR48_1, ↓e_pv0, ↓e_pv1, ↓e_pv2, ↓e_pv3, ↓e_pv5, ↓e_pvR, ↓e_tsw0, ↓e_tsw1, ↓e_lsw0, ↓e_lsw1, e_kq100, e_kq0, e_kq3, e_kq5, e_kqR0, e_kqR1, e_kqR2, e_kqR3, e_kqR4, e_kqR5, e_kqR6, e_kqR7, e_kqR8, e_kqR9, e_kqR10, e_kqR11, e_kqR12, e_kqR13, e_kqR14, e_kqR15, e_kqR16, e_kqR17, e_kqR39, e_kqR40, e_kqR41, e_kqR42, e_kqR43, e_kqR44, e_kqR45, e_kqR46, e_kqR47, e_kqR48, e_st0I, e_st0R, e_st0L, e_st1N, e_st1I, e_st1L, e_st1R, e_st2, e_wd0, e_wdI, e_wdL, e_wdR, e_c1I, e_c1R, e_gv0, e_gv1, e_gv2, e_gv3, e_gv4, e_gv5, e_gvR0, e_gvR1, e_gvR2, e_gvR3, e_gvR4, e_gvR5, e_gvR6, e_gvR7, e_gvR8, e_gvR9, e_gvR10, e_gvR11, e_gvR12, e_gvR13, e_gvR14, e_gvR15, e_gvR16, e_gvR17, e_gvR39, e_gvR40, e_gvR41, e_gvR42, e_gvR43, e_gvR44, e_gvR45, e_gvR46, e_gvR47, e_gvR48, e_kX0, e_kX1, e_kVv, e_kVx, e_kIv, e_kIx, e_kLv, e_kLx, e_kRv, e_kRx, e_thr, e_lk1, e_ic0, e_ic1, e_jm, st_ap, clr_ap, e_lceq, e_lclt, e_lcgt, nn, ↓reduceIte, Nat.reduceDiv, Nat.reduceMod, Nat.reduceMul, Nat.reduceAdd, Nat.reduceEqDiff, Nat.reduceLeDiff, Int.reduceNatCast, Int.cast_ofNat_Int, Int.reduceSub, Int.reduceMul, Int.reduceNeg, Int.reduceAdd, Int.reduceLE, Int.reduceLT, Int.reduceEq, Int.reduceNe, true_and, and_true, true_or, and_self, ne_eq, not_false_eq_true, Bool.false_eq_true, reduceCtorEq, rd_l1, rd_l2, rd_l3, rd_l4, rd_l5, rd_l6, rd_l7, rd_l8, rd_l9, SB, rd_ge, i2b_2, false_and, and_false, not_true_eq_false, l373_0, l373_21, l373_25, l373_26, s373_0, s373_21, s373_25, s373_26, zM_18, zM_19, zM_20, zM_21, zM_22, zM_23, zM_24, zM_25, zM_26, zM_27, zM_28, zM_29, zM_30, zM_31, zM_32, zM_33, zM_34, zM_35, zM_36, zM_37, zM_38, zM_39, zM_40, zM_41, zM_42, zM_43, zM_44, zM_45, zM_46, zM_47, zM_48, zM_49, zM_50, zM_51, zM_52, zM_53, zM_54, zM_55, zM_56, zM_57, zM_58, zM_59, zM_60, zM_61, zM_62, zM_63, zM_64, zM_65, zM_66, zM_67, zM_68, zM_69, zM_70, zM_71, zM_72, zM_73, zM_74, zM_75, zM_76, zM_77, zM_78, zM_79, zM_80, zM_81, zM_82, zM_83, zM_84, zM_85, zM_86, zM_87, zM_88, zM_89, zM_90, zM_91, zM_92, zM_93, zM_94, zM_95, zM_96, zM_97, zM_98, zM_99, zM_100, zM_101, zM_102, zM_103, zM_104, zM_105, zM_106, zM_107, zM_108, zM_109, zM_110, zM_111, zM_112, zM_113, zM_114, zM_115, zM_116, zM_117, zM_118, zM_119]
      try simp only [e_kIv]
      refine p_parts G5 M4 bf ⟨e70, ea.2⟩ ⟨c35, v76⟩ ?_ ?_
      · intro c a6 fl h6 w6 r6 hfl aa6 G6 M6 cr c6 d6 PT F6 V6
        try simp only [e_kIv]
        repeat (first | refine J_andL (by first | omega | (constructor <;> omega)) ?_ | refine J_andR (by first | omega | (constructor <;> omega)) ?_ | refine J_posL (by first | omega | (constructor <;> omega)) ?_ | refine J_negL (by first | omega | (constructor <;> omega)) ?_ | refine J_posR (by first | omega | (constructor <;> omega)) ?_ | refine J_negR (by first | omega | (constructor <;> omega)) ?_)
        have C6 : Fz glC h h6 := Fz_tr C5 (Fz_mo F6 (fun p j q => by unfold prC at q; unfold glC; omega))
        have W6 : Fz glM w w6 := Fz_tr W4 (Fz_mo V6 (fun p j q => by unfold prM at q; unfold glM; omega))
        have e0 : h6 366 0 = -1 := by rw [F6 _ _ (by unfold prC; omega)]; exact eF5
        have c96 : h6 379 1 = 0 := by rw [F6 _ _ (by unfold prC; omega)]; exact c95
        have u77 : w6 17 77 = 0 := by rw [V6 _ _ (by unfold prM; omega)]; exact v77
        obtain ⟨v1, hv1, ev1⟩ := c_hasCode (n := n) (h := h6) (w := w6) (c := c) (by omega) c6 e0 (fun i i0 i1 => by
          have := (PT.1 i.toNat (by omega)).1.1.1
          rw [show ((i.toNat : Nat) : Int) = i by omega] at this
          exact this)
        obtain ⟨v2, hv2, ev2⟩ := m_hasCode (m := m) (w := w6) (c := c) (by omega) d6
        refine J_LI ev1 (J_RI ev2 ?_)
        -- the record, if its code is told
        have mk : ∀ h7 w7 : Mem, Fz gcC h6 h7 → Fz gcM w6 w7 → CDR h7 w7 → (¬ cdm (w6 75) c.toNat → w7 17 77 = 0) → GRD al h7 w7 := by
          intro h7 w7 F7 V7 CD nc
          have q76 : w7 17 76 = c := by rw [V7 _ _ (by unfold gcM; omega)]; exact d6
          have q75 : w7 75 = w6 75 := funext fun j => V7 _ _ (by unfold gcM; omega)
          have q378 : h7 378 = h6 378 := funext fun j => F7 _ _ (by unfold gcC; omega)
          refine ⟨?_, ?_, fun t t0 t1 => ?_, Or.inr (Or.inr ⟨?_, ?_, ?_, ?_, ?_, ?_, CD, ?_, ?_, ?_, ?_⟩)⟩
          · rw [F7 _ _ (by unfold gcC; omega), V7 _ _ (by unfold gcM; omega), V6 _ _ (by unfold prM; omega), eF4.2]; exact e0
          · rw [V7 _ _ (by unfold gcM; omega), V6 _ _ (by unfold prM; omega), eF4.2]; omega
          · rw [F7 _ _ (by unfold gcC; omega), F6 _ _ (by unfold prC; omega), V7 _ _ (by unfold gcM; omega), V6 _ _ (by unfold prM; omega)]; exact BX5 t t0 t1
          · rw [V7 _ _ (by unfold gcM; omega), V6 _ _ (by unfold prM; omega)]; exact eF4.2
          · rw [V7 _ _ (by unfold gcM; omega), V6 _ _ (by unfold prM; omega)]; exact v74
          · rw [V7 _ _ (by unfold gcM; omega), V6 _ _ (by unfold prM; omega)]; exact v75
          · rw [F7 _ _ (by unfold gcC; omega), q76]; exact c6
          · rw [q76]; omega
          · rw [q76]
            refine ⟨fun p hp => ?_, by rw [F7 _ _ (by unfold gcC; omega), q75]; exact PT.2.1, fun i i0 i1 => by rw [F7 378 i (by unfold gcC; omega)]; rw [F7 377 1 (by unfold gcC; omega)] at i1; exact PT.2.2 i i0 i1⟩
            obtain ⟨P1, P2⟩ := PT.1 p hp
            exact ⟨PRT_t P1 (fun y _ _ => F7 _ _ (by unfold gcC; omega)) (fun t _ _ => F7 _ _ (by unfold gcC; omega)) (fun y _ _ => V7 _ _ (by unfold gcM; omega)) (fun t _ _ => V7 _ _ (by unfold gcM; omega)), by rw [q378, q75]; exact PRW_t P2 (fun _ _ _ => rfl) (fun y _ _ => V7 _ _ (by unfold gcM; omega)) (fun t _ _ => V7 _ _ (by unfold gcM; omega))⟩
          · rw [q75, q76]; exact nc
          · rw [F7 _ _ (by unfold gcC; omega), F6 _ _ (by unfold prC; omega)]; exact c85
          · rw [V7 _ _ (by unfold gcM; omega), V6 _ _ (by unfold prM; omega)]; exact v78
          · rw [F7 _ _ (by unfold gcC; omega), F6 _ _ (by unfold prC; omega)]; exact c25
        by_cases cd : cdm (w6 75) c.toNat
        · have z1 : v1 = 1 := by rcases hv1 with q | q; exact q.1; exact absurd cd q.2
          have z2 : v2 = 1 := by rcases hv2 with q | q; exact q.1; exact absurd cd q.2
          subst z1 z2
          repeat (first | refine J_andL (by first | omega | (constructor <;> omega)) ?_ | refine J_andR (by first | omega | (constructor <;> omega)) ?_ | refine J_posL (by first | omega | (constructor <;> omega)) ?_ | refine J_negL (by first | omega | (constructor <;> omega)) ?_ | refine J_posR (by first | omega | (constructor <;> omega)) ?_ | refine J_negR (by first | omega | (constructor <;> omega)) ?_)
          refine p_rcode G6 M6 bf c96 ?_ ?_
          · intro a7 h7 w7 r7 aa7 G7 M7 CD F7 V7
            try simp only [e_kIv]
            refine J_negL (by omega) (J_negR (by omega) ?_)
            try simp only [e_kIv]
            have g7 := mk h7 w7 F7 V7 CD (fun z => absurd cd z)
            try refine J_negR (by omega) ?_
            refine p_tail G7 M7 ?_ ?_
            · intro h8 w8 tz F8 V8
              exact ok h8 w8 (mkr a7 (Or.inl ⟨rfl, c, a6, fl, r6, Or.inr ⟨by rcases hfl with z | z; exact z.1; exact absurd cd z.2, r7⟩⟩) tz) (GRD_t g7 (Fz_mo F8 (fun p j q => by omega)) (Fz_mo V8 (fun p j q => by omega))) (Fz_tr (Fz_tr C6 (Fz_mo F7 (fun p j q => by unfold gcC at q; unfold glC; omega))) (Fz_mo F8 (fun p j q => by unfold glC; omega))) (Fz_tr (Fz_tr W6 (Fz_mo V7 (fun p j q => by unfold gcM at q; unfold glM; omega))) (Fz_mo V8 (fun p j q => by unfold glM; omega)))
            · intro h8 w8 tz F8 V8
              exact bad h8 w8 (recE (fun a1 q1 q2 => by
                rcases q1 with ⟨-, c', b', fl', s1, s2⟩ | ⟨s1, -⟩
                · cases r6.symm.trans s1
                  rcases s2 with ⟨s2, -⟩ | ⟨-, s2⟩
                  · rcases hfl with z | z
                    · omega
                    · exact z.2 cd
                  · cases r7.symm.trans s2; exact tz q2
                · omega)) (Fz_tr (Fz_tr C6 (Fz_mo F7 (fun p j q => by unfold gcC at q; unfold glC; omega))) (Fz_mo F8 (fun p j q => by unfold glC; omega))) (Fz_tr (Fz_tr W6 (Fz_mo V7 (fun p j q => by unfold gcM at q; unfold glM; omega))) (Fz_mo V8 (fun p j q => by unfold glM; omega)))
          · intro h7 w7 r7 F7 V7
            try simp only [e_kIv]
            repeat (first | refine J_andL (by first | omega | (constructor <;> omega)) ?_ | refine J_andR (by first | omega | (constructor <;> omega)) ?_ | refine J_posL (by first | omega | (constructor <;> omega)) ?_ | refine J_negL (by first | omega | (constructor <;> omega)) ?_ | refine J_posR (by first | omega | (constructor <;> omega)) ?_ | refine J_negR (by first | omega | (constructor <;> omega)) ?_)
            exact bad h7 w7 (recE (fun a1 q1 q2 => by
                rcases q1 with ⟨-, c', b', fl', s1, s2⟩ | ⟨s1, -⟩
                · cases r6.symm.trans s1
                  rcases s2 with ⟨s2, -⟩ | ⟨-, s2⟩
                  · rcases hfl with z | z
                    · omega
                    · exact z.2 cd
                  · cases r7.symm.trans s2
                · omega)) (Fz_tr C6 (Fz_mo F7 (fun p j q => by unfold gcC at q; unfold glC; omega))) (Fz_tr W6 (Fz_mo V7 (fun p j q => by unfold gcM at q; unfold glM; omega)))
        · have z1 : v1 = 0 := by rcases hv1 with q | q; exact absurd q.2 cd; exact q.1
          have z2 : v2 = 0 := by rcases hv2 with q | q; exact absurd q.2 cd; exact q.1
          subst z1 z2
          refine J_posL rfl (J_posR rfl ?_)
          try simp only [e_kIv]
          try refine J_negR (by omega) ?_
          have g7 := mk h6 w6 Fz_0 Fz_0 ⟨by rw [c96, u77], by omega, fun i i0 i1 => by omega⟩ (fun _ => u77)
          refine p_tail G6 M6 ?_ ?_
          · intro h8 w8 tz F8 V8
            exact ok h8 w8 (mkr a6 (Or.inl ⟨rfl, c, a6, fl, r6, Or.inl ⟨by rcases hfl with z | z; exact absurd z.2 cd; exact z.1, rfl⟩⟩) tz) (GRD_t g7 (Fz_mo F8 (fun p j q => by omega)) (Fz_mo V8 (fun p j q => by omega))) (Fz_tr C6 (Fz_mo F8 (fun p j q => by unfold glC; omega))) (Fz_tr W6 (Fz_mo V8 (fun p j q => by unfold glM; omega)))
          · intro h8 w8 tz F8 V8
            exact bad h8 w8 (recE (fun a1 q1 q2 => by
                rcases q1 with ⟨-, c', b', fl', s1, s2⟩ | ⟨s1, -⟩
                · cases r6.symm.trans s1
                  rcases s2 with ⟨-, s2⟩ | ⟨s2, -⟩
                  · rw [s2] at q2; exact tz q2
                  · rcases hfl with z | z
                    · exact cd z.2
                    · omega
                · omega)) (Fz_tr C6 (Fz_mo F8 (fun p j q => by unfold glC; omega))) (Fz_tr W6 (Fz_mo V8 (fun p j q => by unfold glM; omega)))
      · intro h6 w6 r6 F6 V6
        try simp only [e_kIv]
        repeat (first | refine J_andL (by first | omega | (constructor <;> omega)) ?_ | refine J_andR (by first | omega | (constructor <;> omega)) ?_ | refine J_posL (by first | omega | (constructor <;> omega)) ?_ | refine J_negL (by first | omega | (constructor <;> omega)) ?_ | refine J_posR (by first | omega | (constructor <;> omega)) ?_ | refine J_negR (by first | omega | (constructor <;> omega)) ?_)
        exact bad h6 w6 (recE (fun a1 q1 q2 => by
          rcases q1 with ⟨-, c', b', fl', s1, s2⟩ | ⟨s1, -⟩
          · cases r6.symm.trans s1
          · omega)) (Fz_tr C5 (Fz_mo F6 (fun p j q => by unfold prC at q; unfold glC; omega))) (Fz_tr W4 (Fz_mo V6 (fun p j q => by unfold prM at q; unfold glM; omega)))
    · by_cases qo : 1 ≤ F ∧ F ≤ 32
      · repeat (first | refine J_andL (by first | omega | (constructor <;> omega)) ?_ | refine J_andR (by first | omega | (constructor <;> omega)) ?_ | refine J_posL (by first | omega | (constructor <;> omega)) ?_ | refine J_negL (by first | omega | (constructor <;> omega)) ?_ | refine J_posR (by first | omega | (constructor <;> omega)) ?_ | refine J_negR (by first | omega | (constructor <;> omega)) ?_)
        refine J_LI (c_isIn _ _ _) ?_
        rw [bz_t qo]
        repeat (first | refine J_andL (by first | omega | (constructor <;> omega)) ?_ | refine J_andR (by first | omega | (constructor <;> omega)) ?_ | refine J_posL (by first | omega | (constructor <;> omega)) ?_ | refine J_negL (by first | omega | (constructor <;> omega)) ?_ | refine J_posR (by first | omega | (constructor <;> omega)) ?_ | refine J_negR (by first | omega | (constructor <;> omega)) ?_)
        refine p_outline G5 M4 bf ⟨eF5, eF4.2⟩ qo c95 ?_ ?_
        · intro a6 h6 w6 r6 aa6 G6 M6 OL F6 V6
          try simp only [e_kIv]
          refine J_negL (by omega) (J_negR (by omega) ?_)
          have g6 : GRD al h6 w6 := by
            have q73 : w6 17 73 = F := by rw [V6 _ _ (by unfold ouM; omega)]; exact eF4.2
            refine ⟨by rw [F6 _ _ (by unfold ouC; omega), q73]; exact eF5, by omega, fun t t0 t1 => ?_, Or.inr (Or.inl ⟨by omega, by rw [q73]; exact OL, ?_, ?_⟩)⟩
            · rw [F6 _ _ (by unfold ouC; omega), V6 _ _ (by unfold ouM; omega)]; exact BX5 t t0 t1
            · rw [V6 _ _ (by unfold ouM; omega)]; exact v76
            · rw [F6 _ _ (by unfold ouC; omega)]; exact c25
          refine p_tail G6 M6 ?_ ?_
          · intro h7 w7 tz F7 V7
            exact ok h7 w7 (mkr a6 (Or.inr ⟨qo, r6⟩) tz) (GRD_t g6 (Fz_mo F7 (fun p j q => by omega)) (Fz_mo V7 (fun p j q => by omega))) (Fz_tr (Fz_tr C5 (Fz_mo F6 (fun p j q => by unfold ouC at q; unfold glC; omega))) (Fz_mo F7 (fun p j q => by unfold glC; omega))) (Fz_tr (Fz_tr W4 (Fz_mo V6 (fun p j q => by unfold ouM at q; unfold glM; omega))) (Fz_mo V7 (fun p j q => by unfold glM; omega)))
          · intro h7 w7 tz F7 V7
            exact bad h7 w7 (recE (fun a1 q1 q2 => by
              rcases q1 with ⟨s1, -⟩ | ⟨-, s1⟩
              · exact qm s1
              · have := OLR_u s1 r6; subst this; exact tz q2)) (Fz_tr (Fz_tr C5 (Fz_mo F6 (fun p j q => by unfold ouC at q; unfold glC; omega))) (Fz_mo F7 (fun p j q => by unfold glC; omega))) (Fz_tr (Fz_tr W4 (Fz_mo V6 (fun p j q => by unfold ouM at q; unfold glM; omega))) (Fz_mo V7 (fun p j q => by unfold glM; omega)))
        · intro h6 w6 r6 F6 V6
          try simp only [e_kIv]
          repeat (first | refine J_andL (by first | omega | (constructor <;> omega)) ?_ | refine J_andR (by first | omega | (constructor <;> omega)) ?_ | refine J_posL (by first | omega | (constructor <;> omega)) ?_ | refine J_negL (by first | omega | (constructor <;> omega)) ?_ | refine J_posR (by first | omega | (constructor <;> omega)) ?_ | refine J_negR (by first | omega | (constructor <;> omega)) ?_)
          exact bad h6 w6 (recE (fun a1 q1 q2 => by
              rcases q1 with ⟨s1, -⟩ | ⟨-, s1⟩
              · exact qm s1
              · exact r6 a1 s1)) (Fz_tr C5 (Fz_mo F6 (fun p j q => by unfold ouC at q; unfold glC; omega))) (Fz_tr W4 (Fz_mo V6 (fun p j q => by unfold ouM at q; unfold glM; omega)))
      · repeat (first | refine J_andL (by first | omega | (constructor <;> omega)) ?_ | refine J_andR (by first | omega | (constructor <;> omega)) ?_ | refine J_posL (by first | omega | (constructor <;> omega)) ?_ | refine J_negL (by first | omega | (constructor <;> omega)) ?_ | refine J_posR (by first | omega | (constructor <;> omega)) ?_ | refine J_negR (by first | omega | (constructor <;> omega)) ?_)
        refine J_LI (c_isIn _ _ _) ?_
        rw [bz_f qo]
        repeat (first | refine J_andL (by first | omega | (constructor <;> omega)) ?_ | refine J_andR (by first | omega | (constructor <;> omega)) ?_ | refine J_posL (by first | omega | (constructor <;> omega)) ?_ | refine J_negL (by first | omega | (constructor <;> omega)) ?_ | refine J_posR (by first | omega | (constructor <;> omega)) ?_ | refine J_negR (by first | omega | (constructor <;> omega)) ?_)
        by_cases q1 : F = 0
        · repeat (first | refine J_andL (by first | omega | (constructor <;> omega)) ?_ | refine J_andR (by first | omega | (constructor <;> omega)) ?_ | refine J_posL (by first | omega | (constructor <;> omega)) ?_ | refine J_negL (by first | omega | (constructor <;> omega)) ?_ | refine J_posR (by first | omega | (constructor <;> omega)) ?_ | refine J_negR (by first | omega | (constructor <;> omega)) ?_)
          exact bad h5 w4 (recE (fun a1 q1 q2 => by
              rcases q1 with ⟨s1, -⟩ | ⟨s1, -⟩
              · exact qm s1
              · exact qo s1)) C5 W4
        · by_cases q2 : F < -1
          · repeat (first | refine J_andL (by first | omega | (constructor <;> omega)) ?_ | refine J_andR (by first | omega | (constructor <;> omega)) ?_ | refine J_posL (by first | omega | (constructor <;> omega)) ?_ | refine J_negL (by first | omega | (constructor <;> omega)) ?_ | refine J_posR (by first | omega | (constructor <;> omega)) ?_ | refine J_negR (by first | omega | (constructor <;> omega)) ?_)
            exact bad h5 w4 (recE (fun a1 q1 q2 => by
              rcases q1 with ⟨s1, -⟩ | ⟨s1, -⟩
              · exact qm s1
              · exact qo s1)) C5 W4
          · repeat (first | refine J_andL (by first | omega | (constructor <;> omega)) ?_ | refine J_andR (by first | omega | (constructor <;> omega)) ?_ | refine J_posL (by first | omega | (constructor <;> omega)) ?_ | refine J_negL (by first | omega | (constructor <;> omega)) ?_ | refine J_posR (by first | omega | (constructor <;> omega)) ?_ | refine J_negR (by first | omega | (constructor <;> omega)) ?_)
            exact bad h5 w4 (recE (fun a1 q1 q2 => by
              rcases q1 with ⟨s1, -⟩ | ⟨s1, -⟩
              · exact qm s1
              · exact qo s1)) C5 W4
  · rw [bz_f q10]
    repeat (first | refine J_andL (by first | omega | (constructor <;> omega)) ?_ | refine J_andR (by first | omega | (constructor <;> omega)) ?_ | refine J_posL (by first | omega | (constructor <;> omega)) ?_ | refine J_negL (by first | omega | (constructor <;> omega)) ?_ | refine J_posR (by first | omega | (constructor <;> omega)) ?_ | refine J_negR (by first | omega | (constructor <;> omega)) ?_)
    exact bad _ _ (fun r => by
      rcases r with e | e
      · exact q e
      · exact q10 e.1) C2 W2
end
