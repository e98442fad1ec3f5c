set_option maxRecDepth 100000
/-- four bytes, unsigned -/
def u4f (f : Int → Int) (i : Int) : Int := 65536 * u2f f i + u2f f (i + 2)
theorem u4f_r (f : Int → Int) (i : Int) : 0 ≤ u4f f i ∧ u4f f i < 4294967296 := by
  have := u2f_r f i
  have := u2f_r f (i + 2)
  unfold u4f; omega
/-- where record g begins -/
def lov (fm : Int) (f : Int → Int) (g : Int) : Int := if fm = 0 then 2 * u2f f (2 * g) else u4f f (4 * g)
theorem lov_r (fm : Int) (f : Int → Int) (g : Int) : 0 ≤ lov fm f g ∧ lov fm f g < 4294967296 := by
  have := u2f_r f (2 * g)
  have := u4f_r f (4 * g)
  unfold lov; split <;> omega
/-- bodies k and b are tied -/
def TB (k b : Int) (h w : Mem) : Prop := (0 ≤ k ∧ k < 112) ∧ (0 ≤ b ∧ b < 120) ∧ (0 ≤ h (28 + 2 * k) 1 ∧ h (28 + 2 * k) 1 ≤ 12000) ∧ w 53 b = h (28 + 2 * k) 1 ∧ ∀ i, 0 ≤ i → i < h (28 + 2 * k) 1 → h (29 + 2 * k) i = w 52 (12000 * b + i) ∧ -128 ≤ h (29 + 2 * k) i ∧ h (29 + 2 * k) i ≤ 127
section
variable {n m : Int} {h w : Mem} {f : Int → Int} {k b g fm N : Int}
theorem c_u2T {i : Int} (k0 : 0 ≤ k ∧ k < 112) (i0 : 0 ≤ i ∧ i + 1 < N ∧ N ≤ 12000) (s : ∀ j, 0 ≤ j → j < N → h (29 + 2 * k) j = f j) : Ev gC 118 [vR 3 (28 + 2 * k), vI i] n h (.inl (some (vI (u2f f i)))) n h := by
  have zz := bsz8 k0
  have e : u2v h (28 + 2 * k) i = u2f f i := by
    unfold u2v u2f
    rw [show 28 + 2 * k + 1 = 29 + 2 * k by omega, s i (by omega) (by omega), s (i + 1) (by omega) (by omega)]
  have := c_u2 (n := n) (h := h) (t := 28 + 2 * k) (i := i) (by omega) (by omega) (by omega)
  rw [e] at this
  exact this
theorem c_u4T {i : Int} (k0 : 0 ≤ k ∧ k < 112) (i0 : 0 ≤ i ∧ i + 3 < N ∧ N ≤ 12000) (s : ∀ j, 0 ≤ j → j < N → h (29 + 2 * k) j = f j) : Ev gC 117 [vR 3 (28 + 2 * k), vI i] n h (.inl (some (vI (wr (u4f f i))))) n h := by
  have zz := bsz8 k0
  have e : u4v h (28 + 2 * k) i = wr (u4f f i) := by
    unfold u4v u4f u2v u2f
    rw [show 28 + 2 * k + 1 = 29 + 2 * k by omega, s i (by omega) (by omega), s (i + 1) (by omega) (by omega), s (i + 2) (by omega) (by omega), s (i + 2 + 1) (by omega) (by omega)]
  have := c_u4 (n := n) (h := h) (t := 28 + 2 * k) (i := i) (by omega) (by omega) (by omega)
  rw [e] at this
  exact this
theorem m_u2T {i : Int} (b0 : 0 ≤ b ∧ b < 120) (i0 : 0 ≤ i ∧ i + 1 < N ∧ N ≤ 12000) (s : ∀ j, 0 ≤ j → j < N → w 52 (12000 * b + j) = f j) : Ev gM 362 [vR 33 17, vI b, vI i] m w (.inl (some (vI (u2f f i)))) m w := by
  have := m_two (m := m) (w := w) b0 (i := i) (by omega)
  rw [s i (by omega) (by omega), s (i + 1) (by omega) (by omega)] at this
  exact this
theorem m_u4T {i : Int} (b0 : 0 ≤ b ∧ b < 120) (i0 : 0 ≤ i ∧ i + 3 < N ∧ N ≤ 12000) (s : ∀ j, 0 ≤ j → j < N → w 52 (12000 * b + j) = f j) : Ev gM 361 [vR 33 17, vI b, vI i] m w (.inl (some (vL (u4f f i)))) m w := by
  intro Q hQ
  refine T_go (md := true) [some (vR 33 17), some (vI b), some (vI i)] [] 99 (by decide) rfl (Nat.le_of_ble_eq_true rfl) GM FM rfl k361 ?_
  simp -implicitDefEqProofs only [r_iconst, r_bipush, r_sipush, r_ldc, r_ldc_w, r_lconst, r_ldc2_w, r_aconst_null, r_iload, r_iload_n, r_lload, r_lload_n, r_aload, r_aload_n, r_istore, r_istore_n, r_lstore, r_lstore_n, r_astore, r_astore_n, r_iinc, r_iadd, r_iaddW, r_isub, r_isubW, r_imul, r_imulW, r_ladd, r_laddW, r_lsub, r_lsubW, r_lmul, r_lmulW, r_iand, r_ior, r_ishl, r_ishr, r_iushr, r_land, r_lor, r_lshl, r_lshr, r_lushr, r_idiv, r_irem, r_ldiv, r_lrem, r_lcmp, r_ineg, r_i2l, r_l2i, r_i2b, r_i2s, r_i2c, r_dup, r_pop, r_dup_x1, r_dup_x2, r_dup2, r_dup2L, r_icmp_eq, r_icmp_ne, r_icmp_lt, r_icmp_ge, r_icmp_gt, r_icmp_le, r_if_eq, r_if_ne, r_if_lt, r_if_ge, r_if_gt, r_if_le, r_acmp_eq, r_acmp_ne, r_ifnull, r_ifnonnull, r_goto, r_nop, r_tsw, r_lsw, r_getfield, r_getfinal, r_putfield, r_getstaticL, r_getstaticR, r_iaload, r_baload, r_saload, r_laload, r_aaload, r_aaloadM, r_iastore, r_bastore, r_zastore, r_sastore, r_lastore, r_aastore, r_alen, r_new, r_newarray, r_anewarray, r_invV, r_invI, r_objI, r_invS, r_acp, r_ireturn, r_zreturn, r_lreturn, r_return, r_areturn, r_athrow, ↓e_pI, ↓e_pL, ↓e_pR, ↓e_lg0, ↓e_lg1, ↓e_tk0, ↓e_tkI0, ↓e_tkI1, ↓e_tkI2, ↓e_tkI3, ↓e_tkI4, ↓e_tkL, ↓e_tkR0_0, ↓e_tkR0_1, ↓e_tkR1_0, ↓e_tkR1_1, ↓e_tkR2_0, ↓e_tkR2_1, ↓e_tkR3_0, ↓e_tkR3_1, ↓e_tkR4_0, ↓e_tkR4_1, ↓e_tkR5_0, ↓e_tkR5_1, ↓e_tkR6_0, ↓e_tkR6_1, ↓e_tkR7_0, ↓e_tkR7_1, ↓e_tkR8_0, ↓e_tkR8_1, ↓e_tkR9_0, ↓e_tkR9_1, ↓e_tkR10_0, ↓e_tkR10_1, ↓e_tkR11_0, ↓e_tkR11_1, ↓e_tkR12_0, ↓e_tkR12_1, ↓e_tkR13_0, ↓e_tkR13_1, ↓e_tkR14_0, ↓e_tkR14_1, ↓e_tkR15_0, ↓e_tkR15_1, ↓e_tkR16_0, ↓e_tkR16_1, ↓e_tkR17_0, ↓e_tkR17_1, ↓e_tkR39_0, ↓e_tkR39_1, ↓e_tkR40_0, ↓e_tkR40_1, ↓e_tkR41_0, ↓e_tkR41_1, ↓e_tkR42_0, ↓e_tkR42_1, ↓e_tkR43_0, ↓e_tkR43_1, ↓e_tkR44_0, ↓e_tkR44_1, ↓e_tkR45_0, ↓e_tkR45_1, ↓e_tkR46_0, ↓e_tkR46_1, ↓e_tkR47_0, ↓e_tkR47_1, ↓e_tkR48_0, ↓e_tkR48_1, ↓e_pv0, ↓e_pv1, ↓e_pv2, ↓e_pv3, ↓e_pv5, ↓e_pvR, ↓e_tsw0, ↓e_tsw1, ↓e_lsw0, ↓e_lsw1, e_kq100, e_kq0, e_kq3, e_kq5, e_kqR0, e_kqR1, e_kqR2, e_kqR3, e_kqR4, e_kqR5, e_kqR6, e_kqR7, e_kqR8, e_kqR9, e_kqR10, e_kqR11, e_kqR12, e_kqR13, e_kqR14, e_kqR15, e_kqR16, e_kqR17, e_kqR39, e_kqR40, e_kqR41, e_kqR42, e_kqR43, e_kqR44, e_kqR45, e_kqR46, e_kqR47, e_kqR48, e_st0I, e_st0R, e_st0L, e_st1N, e_st1I, e_st1L, e_st1R, e_st2, e_wd0, e_wdI, e_wdL, e_wdR, e_c1I, e_c1R, e_gv0, e_gv1, e_gv2, e_gv3, e_gv4, e_gv5, e_gvR0, e_gvR1, e_gvR2, e_gvR3, e_gvR4, e_gvR5, e_gvR6, e_gvR7, e_gvR8, e_gvR9, e_gvR10, e_gvR11, e_gvR12, e_gvR13, e_gvR14, e_gvR15, e_gvR16, e_gvR17, e_gvR39, e_gvR40, e_gvR41, e_gvR42, e_gvR43, e_gvR44, e_gvR45, e_gvR46, e_gvR47, e_gvR48, e_kX0, e_kX1, e_kVv, e_kVx, e_kIv, e_kIx, e_kLv, e_kLx, e_kRv, e_kRx, e_thr, e_lk1, e_ic0, e_ic1, e_jm, st_ap, clr_ap, e_lceq, e_lclt, e_lcgt, nn, ↓reduceIte, Nat.reduceDiv, Nat.reduceMod, Nat.reduceMul, Nat.reduceAdd, Nat.reduceEqDiff, Nat.reduceLeDiff, Int.reduceNatCast, Int.cast_ofNat_Int, Int.reduceSub, Int.reduceMul, Int.reduceNeg, Int.reduceAdd, Int.reduceLE, Int.reduceLT, Int.reduceEq, Int.reduceNe, true_and, and_true, true_or, and_self, ne_eq, not_false_eq_true, Bool.false_eq_true, reduceCtorEq, rd_l1, rd_l2, rd_l3, rd_l4, rd_l5, rd_l6, rd_l7, rd_l8, rd_l9, SB, rd_ge, i2b_2, false_and, and_false, not_true_eq_false, l361_0, s361_0, zM_18, zM_19, zM_20, zM_21, zM_22, zM_23, zM_24, zM_25, zM_26, zM_27, zM_28, zM_29, zM_30, zM_31, zM_32, zM_33, zM_34, zM_35, zM_36, zM_37, zM_38, zM_39, zM_40, zM_41, zM_42, zM_43, zM_44, zM_45, zM_46, zM_47, zM_48, zM_49, zM_50, zM_51, zM_52, zM_53, zM_54, zM_55, zM_56, zM_57, zM_58, zM_59, zM_60, zM_61, zM_62, zM_63, zM_64, zM_65, zM_66, zM_67, zM_68, zM_69, zM_70, zM_71, zM_72, zM_73, zM_74, zM_75, zM_76, zM_77, zM_78, zM_79, zM_80, zM_81, zM_82, zM_83, zM_84, zM_85, zM_86, zM_87, zM_88, zM_89, zM_90, zM_91, zM_92, zM_93, zM_94, zM_95, zM_96, zM_97, zM_98, zM_99, zM_100, zM_101, zM_102, zM_103, zM_104, zM_105, zM_106, zM_107, zM_108, zM_109, zM_110, zM_111, zM_112, zM_113, zM_114, zM_115, zM_116, zM_117, zM_118, zM_119]
  refine E_I (m_u2T b0 (by omega) s) ?_
  repeat (first | exact hQ | refine And.intro (by first | omega | (constructor <;> omega)) ?_ | rw [if_pos (by first | omega | (constructor <;> omega))] | rw [if_neg (by first | omega | (constructor <;> omega))])
  refine E_I (m_u2T b0 (by omega) s) ?_
  have r1 := u2f_r f i
  have r2 := u2f_r f (i + 2)
  have e0 : lsl (u2f f i) 16 = 65536 * u2f f i := by rw [lsl_eq (by omega) (by omega), show (2 : Int) ^ (16 : Int).toNat = 65536 from rfl, wl_id (by unfold i64; omega)]; omega
  have e1 : lor (65536 * u2f f i) (u2f f (i + 2)) = u4f f i := by
    have a1 : u64 (65536 * u2f f i) = (65536 * u2f f i).toNat := by unfold u64; omega
    have a2 : u64 (u2f f (i + 2)) = (u2f f (i + 2)).toNat := by unfold u64; omega
    rw [lor_n, a1, a2, nor_add (k := 16) (by omega) (by omega)]
    unfold s64 u4f
    split <;> omega
  rw [e0, e1]
  exact hQ
/-- BEGIN (149) -/
theorem c_begin (k0 : 0 ≤ k ∧ k < 112) (e7 : h 365 7 = 28 + 2 * k) (e2 : h 365 2 = fm) (g0 : 0 ≤ g) (r : (fm = 0 ∧ 2 * g + 1 < N ∨ fm ≠ 0 ∧ 4 * g + 3 < N) ∧ N ≤ 12000) (s : ∀ j, 0 ≤ j → j < N → h (29 + 2 * k) j = f j) : Ev gC 149 [vR 21 365, vI g] n h (.inl (some (vI (wr (lov fm f g))))) n h := by
  intro Q hQ
  have r2 := u2f_r f (2 * g)
  unfold lov at hQ
  refine T_go (md := true) [some (vR 21 365), some (vI g)] [] 99 (by decide) rfl (Nat.le_of_ble_eq_true rfl) GC FC rfl k149 ?_
  simp -implicitDefEqProofs only [r_iconst, r_bipush, r_sipush, r_ldc, r_ldc_w, r_lconst, r_ldc2_w, r_aconst_null, r_iload, r_iload_n, r_lload, r_lload_n, r_aload, r_aload_n, r_istore, r_istore_n, r_lstore, r_lstore_n, r_astore, r_astore_n, r_iinc, r_iadd, r_iaddW, r_isub, r_isubW, r_imul, r_imulW, r_ladd, r_laddW, r_lsub, r_lsubW, r_lmul, r_lmulW, r_iand, r_ior, r_ishl, r_ishr, r_iushr, r_land, r_lor, r_lshl, r_lshr, r_lushr, r_idiv, r_irem, r_ldiv, r_lrem, r_lcmp, r_ineg, r_i2l, r_l2i, r_i2b, r_i2s, r_i2c, r_dup, r_pop, r_dup_x1, r_dup_x2, r_dup2, r_dup2L, r_icmp_eq, r_icmp_ne, r_icmp_lt, r_icmp_ge, r_icmp_gt, r_icmp_le, r_if_eq, r_if_ne, r_if_lt, r_if_ge, r_if_gt, r_if_le, r_acmp_eq, r_acmp_ne, r_ifnull, r_ifnonnull, r_goto, r_nop, r_tsw, r_lsw, r_getfield, r_getfinal, r_putfield, r_getstaticL, r_getstaticR, r_iaload, r_baload, r_saload, r_laload, r_aaload, r_aaloadM, r_iastore, r_bastore, r_zastore, r_sastore, r_lastore, r_aastore, r_alen, r_new, r_newarray, r_anewarray, r_invV, r_invI, r_objI, r_invS, r_acp, r_ireturn, r_zreturn, r_lreturn, r_return, r_areturn, r_athrow, ↓e_pI, ↓e_pL, ↓e_pR, ↓e_lg0, ↓e_lg1, ↓e_tk0, ↓e_tkI0, ↓e_tkI1, ↓e_tkI2, ↓e_tkI3, ↓e_tkI4, ↓e_tkL, ↓e_tkR0_0, ↓e_tkR0_1, ↓e_tkR1_0, ↓e_tkR1_1, ↓e_tkR2_0, ↓e_tkR2_1, ↓e_tkR3_0, ↓e_tkR3_1, ↓e_tkR4_0, ↓e_tkR4_1, ↓e_tkR5_0, ↓e_tkR5_1, ↓e_tkR6_0, ↓e_tkR6_1, ↓e_tkR7_0, ↓e_tkR7_1, ↓e_tkR8_0, ↓e_tkR8_1, ↓e_tkR9_0, ↓e_tkR9_1, ↓e_tkR10_0, ↓e_tkR10_1, ↓e_tkR11_0, ↓e_tkR11_1, ↓e_tkR12_0, ↓e_tkR12_1, ↓e_tkR13_0, ↓e_tkR13_1, ↓e_tkR14_0, ↓e_tkR14_1, ↓e_tkR15_0, ↓e_tkR15_1, ↓e_tkR16_0, ↓e_tkR16_1, ↓e_tkR17_0, ↓e_tkR17_1, ↓e_tkR39_0, ↓e_tkR39_1, ↓e_tkR40_0, ↓e_tkR40_1, ↓e_tkR41_0, ↓e_tkR41_1, ↓e_tkR42_0, ↓e_tkR42_1, ↓e_tkR43_0, ↓e_tkR43_1, ↓e_tkR44_0, ↓e_tkR44_1, ↓e_tkR45_0, ↓e_tkR45_1, ↓e_tkR46_0, ↓e_tkR46_1, ↓e_tkR47_0, ↓e_tkR47_1, ↓e_tkR48_0, ↓e_tkR48_1, ↓e_pv0, ↓e_pv1, ↓e_pv2, ↓e_pv3, ↓e_pv5, ↓e_pvR, ↓e_tsw0, ↓e_tsw1, ↓e_lsw0, ↓e_lsw1, e_kq100, e_kq0, e_kq3, e_kq5, e_kqR0, e_kqR1, e_kqR2, e_kqR3, e_kqR4, e_kqR5, e_kqR6, e_kqR7, e_kqR8, e_kqR9, e_kqR10, e_kqR11, e_kqR12, e_kqR13, e_kqR14, e_kqR15, e_kqR16, e_kqR17, e_kqR39, e_kqR40, e_kqR41, e_kqR42, e_kqR43, e_kqR44, e_kqR45, e_kqR46, e_kqR47, e_kqR48, e_st0I, e_st0R, e_st0L, e_st1N, e_st1I, e_st1L, e_st1R, e_st2, e_wd0, e_wdI, e_wdL, e_wdR, e_c1I, e_c1R, e_gv0, e_gv1, e_gv2, e_gv3, e_gv4, e_gv5, e_gvR0, e_gvR1, e_gvR2, e_gvR3, e_gvR4, e_gvR5, e_gvR6, e_gvR7, e_gvR8, e_gvR9, e_gvR10, e_gvR11, e_gvR12, e_gvR13, e_gvR14, e_gvR15, e_gvR16, e_gvR17, e_gvR39, e_gvR40, e_gvR41, e_gvR42, e_gvR43, e_gvR44, e_gvR45, e_gvR46, e_gvR47, e_gvR48, e_kX0, e_kX1, e_kVv, e_kVx, e_kIv, e_kIx, e_kLv, e_kLx, e_kRv, e_kRx, e_thr, e_lk1, e_ic0, e_ic1, e_jm, st_ap, clr_ap, e_lceq, e_lclt, e_lcgt, nn, ↓reduceIte, Nat.reduceDiv, Nat.reduceMod, Nat.reduceMul, Nat.reduceAdd, Nat.reduceEqDiff, Nat.reduceLeDiff, Int.reduceNatCast, Int.cast_ofNat_Int, Int.reduceSub, Int.reduceMul, Int.reduceNeg, Int.reduceAdd, Int.reduceLE, Int.reduceLT, Int.reduceEq, Int.reduceNe, true_and, and_true, true_or, and_self, ne_eq, not_false_eq_true, Bool.false_eq_true, reduceCtorEq, rd_l1, rd_l2, rd_l3, rd_l4, rd_l5, rd_l6, rd_l7, rd_l8, rd_l9, SB, rd_ge, i2b_2, false_and, and_false, not_true_eq_false, l149_0, l149_22, l149_32, s149_0, s149_22, s149_32, zC_18, zC_20, zC_21, zC_22, zC_23, zC_25, zC_26, zC_253, zC_254, zC_256, zC_257, zC_259, zC_260, zC_262, zC_263, zC_265, zC_266, zC_268, zC_269, zC_271, zC_272, zC_274, zC_275, zC_278, zC_279, zC_280, zC_281, zC_282, zC_284, zC_285, zC_287, zC_288, zC_290, zC_291, zC_293, zC_294, zC_296, zC_297, zC_299, zC_300, zC_302, zC_303, zC_304, zC_305, zC_306, zC_307, zC_308, zC_309, zC_310, zC_311, zC_312, zC_315, zC_316, zC_317, zC_319, zC_320, zC_321, zC_323, zC_324, zC_325, zC_327, zC_328, zC_329, zC_331, zC_332, zC_333, zC_335, zC_336, zC_337, zC_339, zC_340, zC_341, zC_343, zC_344, zC_345, zC_347, zC_348, zC_349, zC_350, zC_351, zC_352, zC_353, zC_354, zC_355, zC_356, zC_357, zC_358, zC_359, zC_361, zC_362, zC_363, zC_364, zC_367, zC_368, zC_369, zC_370, zC_371, zC_372, zC_373, zC_374, zC_375, zC_376, zC_378, zC_380, zC_381, zC_383, zC_384, zC_386, zC_387, zC_389, zC_390, zC_391, zC_392, zC_393, zC_394, zC_395, zC_396, zC_397, zC_398, zC_400, zC_402, zC_403, zC_405, zC_407, zC_409, zC_411, zC_413, zC_415, zC_417, zC_420, zC_421, zC_422, zC_423, zC_424, zC_425, zC_427, zC_429, zC_431, zC_433, zC_436, zC_437, zC_438, zC_439, zC_440, zC_441, zC_442, zC_443, zC_444, zC_445, zC_447, zC_448, zC_450, zC_451, zC_453, zC_454, zC_455, zC_456, zC_457, zC_458, zC_460, zC_461, zC_462, zC_463, zC_464, zC_465, zC_466, zC_467, zC_468, zC_469, zC_471, zC_473, zC_474, zC_476, zC_477, zC_478, zC_479, zC_480, zC_481, zC_482, zC_483, zC_484, zC_485, zC_487, zC_489, zC_490, zC_491, zC_493, zC_495, zC_497, zC_499]
  rw [e2, e7]
  by_cases q : fm = 0
  · rw [if_pos q, wr_id (by constructor <;> omega)] at hQ
    rw [if_pos q]
    refine ⟨(by first | omega | (constructor <;> omega)), (by first | omega | (constructor <;> omega)), E_I (c_u2T (N := N) k0 (by omega) s) ?_⟩
    repeat (first | exact hQ | refine And.intro (by first | omega | (constructor <;> omega)) ?_ | rw [if_pos (by first | omega | (constructor <;> omega))] | rw [if_neg (by first | omega | (constructor <;> omega))])
  · rw [if_neg q] at hQ
    rw [if_neg q]
    refine ⟨(by first | omega | (constructor <;> omega)), (by first | omega | (constructor <;> omega)), E_I (c_u4T (N := N) k0 (by omega) s) ?_⟩
    repeat (first | exact hQ | refine And.intro (by first | omega | (constructor <;> omega)) ?_ | rw [if_pos (by first | omega | (constructor <;> omega))] | rw [if_neg (by first | omega | (constructor <;> omega))])
/-- locaAt (363) -/
theorem m_loca (b0 : 0 ≤ b ∧ b < 120) (g0 : 0 ≤ g) (r : (fm = 0 ∧ 2 * g + 1 < N ∨ fm ≠ 0 ∧ 4 * g + 3 < N) ∧ N ≤ 12000) (s : ∀ j, 0 ≤ j → j < N → w 52 (12000 * b + j) = f j) : Ev gM 363 [vR 33 17, vI b, vI fm, vI g] m w (.inl (some (vL (lov fm f g)))) m w := by
  intro Q hQ
  have r2 := u2f_r f (2 * g)
  unfold lov at hQ
  refine T_go (md := true) [some (vR 33 17), some (vI b), some (vI fm), some (vI g)] [] 99 (by decide) rfl (Nat.le_of_ble_eq_true rfl) GM FM rfl k363 ?_
  simp -implicitDefEqProofs only [r_iconst, r_bipush, r_sipush, r_ldc, r_ldc_w, r_lconst, r_ldc2_w, r_aconst_null, r_iload, r_iload_n, r_lload, r_lload_n, r_aload, r_aload_n, r_istore, r_istore_n, r_lstore, r_lstore_n, r_astore, r_astore_n, r_iinc, r_iadd, r_iaddW, r_isub, r_isubW, r_imul, r_imulW, r_ladd, r_laddW, r_lsub, r_lsubW, r_lmul, r_lmulW, r_iand, r_ior, r_ishl, r_ishr, r_iushr, r_land, r_lor, r_lshl, r_lshr, r_lushr, r_idiv, r_irem, r_ldiv, r_lrem, r_lcmp, r_ineg, r_i2l, r_l2i, r_i2b, r_i2s, r_i2c, r_dup, r_pop, r_dup_x1, r_dup_x2, r_dup2, r_dup2L, r_icmp_eq, r_icmp_ne, r_icmp_lt, r_icmp_ge, r_icmp_gt, r_icmp_le, r_if_eq, r_if_ne, r_if_lt, r_if_ge, r_if_gt, r_if_le, r_acmp_eq, r_acmp_ne, r_ifnull, r_ifnonnull, r_goto, r_nop, r_tsw, r_lsw, r_getfield, r_getfinal, r_putfield, r_getstaticL, r_getstaticR, r_iaload, r_baload, r_saload, r_laload, r_aaload, r_aaloadM, r_iastore, r_bastore, r_zastore, r_sastore, r_lastore, r_aastore, r_alen, r_new, r_newarray, r_anewarray, r_invV, r_invI, r_objI, r_invS, r_acp, r_ireturn, r_zreturn, r_lreturn, r_return, r_areturn, r_athrow, ↓e_pI, ↓e_pL, ↓e_pR, ↓e_lg0, ↓e_lg1, ↓e_tk0, ↓e_tkI0, ↓e_tkI1, ↓e_tkI2, ↓e_tkI3, ↓e_tkI4, ↓e_tkL, ↓e_tkR0_0, ↓e_tkR0_1, ↓e_tkR1_0, ↓e_tkR1_1, ↓e_tkR2_0, ↓e_tkR2_1, ↓e_tkR3_0, ↓e_tkR3_1, ↓e_tkR4_0, ↓e_tkR4_1, ↓e_tkR5_0, ↓e_tkR5_1, ↓e_tkR6_0, ↓e_tkR6_1, ↓e_tkR7_0, ↓e_tkR7_1, ↓e_tkR8_0, ↓e_tkR8_1, ↓e_tkR9_0, ↓e_tkR9_1, ↓e_tkR10_0, ↓e_tkR10_1, ↓e_tkR11_0, ↓e_tkR11_1, ↓e_tkR12_0, ↓e_tkR12_1, ↓e_tkR13_0, ↓e_tkR13_1, ↓e_tkR14_0, ↓e_tkR14_1, ↓e_tkR15_0, ↓e_tkR15_1, ↓e_tkR16_0, ↓e_tkR16_1, ↓e_tkR17_0, ↓e_tkR17_1, ↓e_tkR39_0, ↓e_tkR39_1, ↓e_tkR40_0, ↓e_tkR40_1, ↓e_tkR41_0, ↓e_tkR41_1, ↓e_tkR42_0, ↓e_tkR42_1, ↓e_tkR43_0, ↓e_tkR43_1, ↓e_tkR44_0, ↓e_tkR44_1, ↓e_tkR45_0, ↓e_tkR45_1, ↓e_tkR46_0, ↓e_tkR46_1, ↓e_tkR47_0, ↓e_tkR47_1, ↓e_tkR48_0, ↓e_tkR48_1, ↓e_pv0, ↓e_pv1, ↓e_pv2, ↓e_pv3, ↓e_pv5, ↓e_pvR, ↓e_tsw0, ↓e_tsw1, ↓e_lsw0, ↓e_lsw1, e_kq100, e_kq0, e_kq3, e_kq5, e_kqR0, e_kqR1, e_kqR2, e_kqR3, e_kqR4, e_kqR5, e_kqR6, e_kqR7, e_kqR8, e_kqR9, e_kqR10, e_kqR11, e_kqR12, e_kqR13, e_kqR14, e_kqR15, e_kqR16, e_kqR17, e_kqR39, e_kqR40, e_kqR41, e_kqR42, e_kqR43, e_kqR44, e_kqR45, e_kqR46, e_kqR47, e_kqR48, e_st0I, e_st0R, e_st0L, e_st1N, e_st1I, e_st1L, e_st1R, e_st2, e_wd0, e_wdI, e_wdL, e_wdR, e_c1I, e_c1R, e_gv0, e_gv1, e_gv2, e_gv3, e_gv4, e_gv5, e_gvR0, e_gvR1, e_gvR2, e_gvR3, e_gvR4, e_gvR5, e_gvR6, e_gvR7, e_gvR8, e_gvR9, e_gvR10, e_gvR11, e_gvR12, e_gvR13, e_gvR14, e_gvR15, e_gvR16, e_gvR17, e_gvR39, e_gvR40, e_gvR41, e_gvR42, e_gvR43, e_gvR44, e_gvR45, e_gvR46, e_gvR47, e_gvR48, e_kX0, e_kX1, e_kVv, e_kVx, e_kIv, e_kIx, e_kLv, e_kLx, e_kRv, e_kRx, e_thr, e_lk1, e_ic0, e_ic1, e_jm, st_ap, clr_ap, e_lceq, e_lclt, e_lcgt, nn, ↓reduceIte, Nat.reduceDiv, Nat.reduceMod, Nat.reduceMul, Nat.reduceAdd, Nat.reduceEqDiff, Nat.reduceLeDiff, Int.reduceNatCast, Int.cast_ofNat_Int, Int.reduceSub, Int.reduceMul, Int.reduceNeg, Int.reduceAdd, Int.reduceLE, Int.reduceLT, Int.reduceEq, Int.reduceNe, true_and, and_true, true_or, and_self, ne_eq, not_false_eq_true, Bool.false_eq_true, reduceCtorEq, rd_l1, rd_l2, rd_l3, rd_l4, rd_l5, rd_l6, rd_l7, rd_l8, rd_l9, SB, rd_ge, i2b_2, false_and, and_false, not_true_eq_false, l363_0, l363_20, l363_28, s363_0, s363_20, s363_28, zM_18, zM_19, zM_20, zM_21, zM_22, zM_23, zM_24, zM_25, zM_26, zM_27, zM_28, zM_29, zM_30, zM_31, zM_32, zM_33, zM_34, zM_35, zM_36, zM_37, zM_38, zM_39, zM_40, zM_41, zM_42, zM_43, zM_44, zM_45, zM_46, zM_47, zM_48, zM_49, zM_50, zM_51, zM_52, zM_53, zM_54, zM_55, zM_56, zM_57, zM_58, zM_59, zM_60, zM_61, zM_62, zM_63, zM_64, zM_65, zM_66, zM_67, zM_68, zM_69, zM_70, zM_71, zM_72, zM_73, zM_74, zM_75, zM_76, zM_77, zM_78, zM_79, zM_80, zM_81, zM_82, zM_83, zM_84, zM_85, zM_86, zM_87, zM_88, zM_89, zM_90, zM_91, zM_92, zM_93, zM_94, zM_95, zM_96, zM_97, zM_98, zM_99, zM_100, zM_101, zM_102, zM_103, zM_104, zM_105, zM_106, zM_107, zM_108, zM_109, zM_110, zM_111, zM_112, zM_113, zM_114, zM_115, zM_116, zM_117, zM_118, zM_119]
  by_cases q : fm = 0
  · rw [if_pos q] at hQ
    rw [if_pos q]
    refine ⟨(by first | omega | (constructor <;> omega)), E_I (m_u2T (N := N) b0 (by omega) s) ?_⟩
    refine ⟨by unfold i64; omega, hQ⟩
  · rw [if_neg q] at hQ
    rw [if_neg q]
    refine ⟨(by first | omega | (constructor <;> omega)), E_L (m_u4T (N := N) b0 (by omega) s) ?_⟩
    exact hQ
/-- where the model finds the body of a tag -/
def BOF (p v y : Int) (w : Mem) : Prop := ∃ r, FDS (fun i => w 58 (16 * p + i)) v (w 57 p) r ∧ y = (if r < 0 then -1 else w 59 (16 * p + r)) ∧ 0 ≤ w 57 p ∧ w 57 p ≤ 16
/-- and the house -/
def COF (p v x : Int) (h : Mem) : Prop := ∃ r, FDS (h (252 + 6 * p + 1)) v (h (252 + 6 * p) 2) r ∧ x = (if r < 0 then 0 else h (252 + 6 * p + 2) r) ∧ 0 ≤ h (252 + 6 * p) 2 ∧ h (252 + 6 * p) 2 ≤ 16
theorem m_bof {p v y : Int} (p0 : 0 ≤ p ∧ p < 4) (B : BOF p v y w) : Ev gM 346 [vR 33 17, vI p, vL v] m w (.inl (some (vI y))) m w := by
  obtain ⟨r, F, e, c⟩ := B
  rw [e]
  exact m_bodyOf (by omega) F c
theorem c_cof {p v x : Int} (p0 : 0 ≤ p ∧ p < 4) (B : COF p v x h) : Ev gC 487 [vR 7 (252 + 6 * p), vL v] n h (.inl (some (vR 2 x))) n h := by
  obtain ⟨r, F, e, c⟩ := B
  rw [e]
  exact c_body F c (fsz6 p0).1
theorem COF_t {p v x : Int} {h1 : Mem} (B : COF p v x h) (e : ∀ a j, 252 ≤ a → a ≤ 275 → h1 a j = h a j) (p0 : 0 ≤ p ∧ p < 4) : COF p v x h1 := by
  unfold COF at B ⊢
  rw [show h1 (252 + 6 * p + 1) = h (252 + 6 * p + 1) from funext fun j => e _ _ (by omega) (by omega), e (252 + 6 * p) 2 (by omega) (by omega), show h1 (252 + 6 * p + 2) = h (252 + 6 * p + 2) from funext fun j => e _ _ (by omega) (by omega)]
  exact B
theorem BOF_t {p v y : Int} {w1 : Mem} (B : BOF p v y w) (e : ∀ a j, a = 57 ∨ a = 58 ∨ a = 59 → w1 a j = w a j) : BOF p v y w1 := by
  unfold BOF at B ⊢
  rw [show w1 57 = w 57 from funext fun j => e _ _ (by omega), show w1 58 = w 58 from funext fun j => e _ _ (by omega), show w1 59 = w 59 from funext fun j => e _ _ (by omega)]
  exact B
theorem TB_t {h1 w1 : Mem} (T : TB k b h w) (e : ∀ a j, 28 ≤ a → a ≤ 251 → h1 a j = h a j) (e' : ∀ a j, a = 52 ∨ a = 53 → w1 a j = w a j) : TB k b h1 w1 := by
  obtain ⟨t1, t2, t3, t4, t5⟩ := T
  unfold TB
  rw [e (28 + 2 * k) 1 (by omega) (by omega), e' 53 _ (by omega)]
  exact ⟨t1, t2, t3, t4, fun i i0 i1 => by rw [e (29 + 2 * k) i (by omega) (by omega), e' 52 _ (by omega)]; exact t5 i i0 i1⟩
/-- a tag's body, on both sides -/
theorem bof_ex {p : Int} (v : Int) (R : RST h w) (p0 : 0 ≤ p ∧ p < 4) (hp : w 55 p = 1) : ∃ x y, COF p v x h ∧ BOF p v y w ∧ ((x = 0 ∧ y = -1) ∨ ∃ k, x = 28 + 2 * k ∧ TB k y h w) := by
  obtain ⟨β, K, Bd, FTs, -⟩ := R
  have N := FTs p p0.1 p0.2
  have f9 := N.2.2 hp
  rw [FO_4 p0.2] at f9
  obtain ⟨⟨f1, f2, f3, f4⟩, f5⟩ := f9
  obtain ⟨r, F⟩ := fds_ex (h (252 + 6 * p + 1)) v (c := h (252 + 6 * p) 2) (by omega)
  have F' : FDS (fun i => w 58 (16 * p + i)) v (w 57 p) r := by
    rw [f2] at F
    rcases F with ⟨e, q⟩ | ⟨r0, r1, e, q⟩
    · exact Or.inl ⟨e, fun i i0 i1 => by show w 58 (16 * p + i) ≠ v; rw [← (f5 i i0 i1).1.1]; exact q i i0 i1⟩
    · exact Or.inr ⟨r0, r1, by show w 58 (16 * p + r) = v; rw [← (f5 r r0 r1).1.1]; exact e, fun i i0 i1 => by show w 58 (16 * p + i) ≠ v; rw [← (f5 i i0 (by omega)).1.1]; exact q i i0 i1⟩
  refine ⟨_, _, ⟨r, F, rfl, by omega, by omega⟩, ⟨r, F', rfl, f3, f4⟩, ?_⟩
  by_cases rn : r < 0
  · rw [if_pos rn, if_pos rn]; exact Or.inl ⟨rfl, rfl⟩
  · rw [if_neg rn, if_neg rn]
    have rr : 0 ≤ r ∧ r < w 57 p := by
      rcases F' with ⟨e, _⟩ | ⟨r0, r1, _⟩
      · omega
      · exact ⟨r0, r1⟩
    obtain ⟨_, _, kk, d, e1, e2⟩ := f5 r rr.1 rr.2
    obtain ⟨b1, b2, b3, b4, b5⟩ := Bd.1 kk d
    exact Or.inr ⟨kk, e1, by rw [e2]; exact ⟨b1, b2, b3, b4, b5⟩⟩
end
