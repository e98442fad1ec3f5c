set_option maxRecDepth 100000
theorem abC_r {a j : Int} (q : abC a j) : (365 ≤ a ∧ a ≤ 381) ∨ (385 ≤ a ∧ a ≤ 387) ∨ (404 ≤ a ∧ a ≤ 417) ∨ (430 ≤ a ∧ a ≤ 433) := by
  unfold abC tfC trnC tneC laC glC tnC vwC bgF at q
  omega
theorem abM_r {a j : Int} (q : abM a j) : (a = 17 ∧ (j = 29 ∨ (70 ≤ j ∧ j ≤ 78) ∨ (92 ≤ j ∧ j ≤ 94) ∨ j = 96)) ∨ a = 37 ∨ (69 ≤ a ∧ a ≤ 83) ∨ (109 ≤ a ∧ a ≤ 111) := by
  unfold abM tfM trnM laM glM tnM plM olM vgM at q
  omega
/-- the bytes of a body, with head's bit -/
def bdf (tag len : Int) (f : Int → Int) : Int → Int := fun i => if tag = 1751474532 ∧ 18 ≤ len ∧ i = 16 then i2b (ior (f i) 8) else f i
def bdL (tag len : Int) (f : Int → Int) : List Int := slc (bdf tag len f) 0 len.toNat
theorem bdL_c {tag len : Int} {f g : Int → Int} (e : ∀ i, 0 ≤ i → i < len → f i = g i) : bdL tag len f = bdL tag len g := by
  unfold bdL
  refine slc_c (fun i hi => ?_)
  unfold bdf
  rw [e (0 + i) (by omega) (by omega)]
theorem byt_bd2 {tag len : Int} {f : Int → Int} (b : ∀ i, 0 ≤ i → i < len → -128 ≤ f i ∧ f i ≤ 127) : byt (bdL tag len f) := by
  unfold bdL
  refine byt_s (fun i hi => ?_)
  unfold bdf
  split
  · exact i2b_r _
  · exact b _ (by omega) (by omega)
theorem ior_256 (x : Int) : i2b (ior (x % 256) 8) = i2b (ior x 8) := by
  have a : ∀ y, i2b (ior y 8) = i2b (((u32 y ||| 8 : Nat) % 256 : Nat) : Int) := by
    intro y
    rw [ior_n, i2b_eq, i2b_eq, show u32 8 = 8 from rfl]
    unfold s32
    split <;> omega
  rw [a, a]
  congr 2
  rw [show (256 : Nat) = 2 ^ 8 from rfl, Nat.or_mod_two_pow, Nat.or_mod_two_pow]
  congr 1
  unfold u32
  omega
section
variable {A B : Qt → Prop} {Φ : Out → Int → Mem → Out → Int → Mem → Prop} {KL KM : Qt → Qt} {n m : Int} {h w : Mem}
/-- a body goes behind what is to be squeezed, by the model (433) -/
theorem m_433 {b hd tag len : Int} {P : List Int} {f : Int → Int} (b0 : 0 ≤ b ∧ b < 120) (el : w 53 b = len) (l0 : 0 ≤ len ∧ len ≤ 12000) (ef : ∀ i, 0 ≤ i → i < len → w 52 (12000 * b + i) = f i ∧ -128 ≤ f i ∧ f i ≤ 127) (ht : (hd = 1 ∧ tag = 1751474532) ∨ (hd = 0 ∧ tag ≠ 1751474532)) (PL : PLn w P) (pl : (P.length : Int) ≤ 1900000)
    (fin : ∀ w1 : Mem, PLn w1 (P ++ bdL tag len f) → Fz plM w w1 → J2 A (fun Q => KM Q (.inl none) m w1) Φ) :
    J2 A (fun Q => T gM 433 [vR 33 17, vI b, vI hd] m w (KM Q)) Φ := by
  refine J_impR (fun Q hq => T_go (md := true) [some (vR 33 17), some (vI b), some (vI hd), none, none] [2] 99 (by decide) rfl (Nat.le_of_ble_eq_true rfl) GM FM rfl k433 hq) ?_
  simp -implicitDefEqProofs only [r_iconst, r_bipush, r_sipush, r_ldc, r_ldc_w, r_lconst, r_ldc2_w, r_aconst_null, r_iload, r_iload_n, r_lload, r_lload_n, r_aload, r_aload_n, r_istore, r_istore_n, r_lstore, r_lstore_n, r_astore, r_astore_n, r_iinc, r_iadd, r_iaddW, r_isub, r_isubW, r_imul, r_imulW, r_ladd, r_laddW, r_lsub, r_lsubW, r_lmul, r_lmulW, r_iand, r_ior, r_ishl, r_ishr, r_iushr, r_land, r_lor, r_lshl, r_lshr, r_lushr, r_idiv, r_irem, r_ldiv, r_lrem, r_lcmp, r_ineg, r_i2l, r_l2i, r_i2b, r_i2s, r_i2c, r_dup, r_pop, r_dup_x1, r_dup_x2, r_dup2, r_dup2L, r_icmp_eq, r_icmp_ne, r_icmp_lt, r_icmp_ge, r_icmp_gt, r_icmp_le, r_if_eq, r_if_ne, r_if_lt, r_if_ge, r_if_gt, r_if_le, r_acmp_eq, r_acmp_ne, r_ifnull, r_ifnonnull, r_goto, r_nop, r_tsw, r_lsw, r_getfield, r_getfinal, r_putfield, r_getstaticL, r_getstaticR, r_iaload, r_baload, r_saload, r_laload, r_aaload, r_aaloadM, r_iastore, r_bastore, r_zastore, r_sastore, r_lastore, r_aastore, r_alen, r_new, r_newarray, r_anewarray, r_invV, r_invI, r_objI, r_invS, r_acp, r_ireturn, r_zreturn, r_lreturn, r_return, r_areturn, r_athrow, ↓e_pI, ↓e_pL, ↓e_pR, ↓e_lg0, ↓e_lg1, ↓e_tk0, ↓e_tkI0, ↓e_tkI1, ↓e_tkI2, ↓e_tkI3, ↓e_tkI4, ↓e_tkL, ↓e_tkR0_0, ↓e_tkR0_1, ↓e_tkR1_0, ↓e_tkR1_1, ↓e_tkR2_0, ↓e_tkR2_1, ↓e_tkR3_0, ↓e_tkR3_1, ↓e_tkR4_0, ↓e_tkR4_1, ↓e_tkR5_0, ↓e_tkR5_1, ↓e_tkR6_0, ↓e_tkR6_1, ↓e_tkR7_0, ↓e_tkR7_1, ↓e_tkR8_0, ↓e_tkR8_1, ↓e_tkR9_0, ↓e_tkR9_1, ↓e_tkR10_0, ↓e_tkR10_1, ↓e_tkR11_0, ↓e_tkR11_1, ↓e_tkR12_0, ↓e_tkR12_1, ↓e_tkR13_0, ↓e_tkR13_1, ↓e_tkR14_0, ↓e_tkR14_1, ↓e_tkR15_0, ↓e_tkR15_1, ↓e_tkR16_0, ↓e_tkR16_1, ↓e_tkR17_0, ↓e_tkR17_1, ↓e_tkR39_0, ↓e_tkR39_1, ↓e_tkR40_0, ↓e_tkR40_1, ↓e_tkR41_0, ↓e_tkR41_1, ↓e_tkR42_0, ↓e_tkR42_1, ↓e_tkR43_0, ↓e_tkR43_1, ↓e_tkR44_0, ↓e_tkR44_1, ↓e_tkR45_0, ↓e_tkR45_1, ↓e_tkR46_0, ↓e_tkR46_1, ↓e_tkR47_0, ↓e_tkR47_1, ↓e_tkR48_0, ↓e_tkR48_1, ↓e_pv0, ↓e_pv1, ↓e_pv2, ↓e_pv3, ↓e_pv5, ↓e_pvR, ↓e_tsw0, ↓e_tsw1, ↓e_lsw0, ↓e_lsw1, e_kq100, e_kq0, e_kq3, e_kq5, e_kqR0, e_kqR1, e_kqR2, e_kqR3, e_kqR4, e_kqR5, e_kqR6, e_kqR7, e_kqR8, e_kqR9, e_kqR10, e_kqR11, e_kqR12, e_kqR13, e_kqR14, e_kqR15, e_kqR16, e_kqR17, e_kqR39, e_kqR40, e_kqR41, e_kqR42, e_kqR43, e_kqR44, e_kqR45, e_kqR46, e_kqR47, e_kqR48, e_st0I, e_st0R, e_st0L, e_st1N, e_st1I, e_st1L, e_st1R, e_st2, e_wd0, e_wdI, e_wdL, e_wdR, e_c1I, e_c1R, e_gv0, e_gv1, e_gv2, e_gv3, e_gv4, e_gv5, e_gvR0, e_gvR1, e_gvR2, e_gvR3, e_gvR4, e_gvR5, e_gvR6, e_gvR7, e_gvR8, e_gvR9, e_gvR10, e_gvR11, e_gvR12, e_gvR13, e_gvR14, e_gvR15, e_gvR16, e_gvR17, e_gvR39, e_gvR40, e_gvR41, e_gvR42, e_gvR43, e_gvR44, e_gvR45, e_gvR46, e_gvR47, e_gvR48, e_kX0, e_kX1, e_kVv, e_kVx, e_kIv, e_kIx, e_kLv, e_kLx, e_kRv, e_kRx, e_thr, e_lk1, e_ic0, e_ic1, e_jm, st_ap, clr_ap, e_lceq, e_lclt, e_lcgt, nn, ↓reduceIte, Nat.reduceDiv, Nat.reduceMod, Nat.reduceMul, Nat.reduceAdd, Nat.reduceEqDiff, Nat.reduceLeDiff, Int.reduceNatCast, Int.cast_ofNat_Int, Int.reduceSub, Int.reduceMul, Int.reduceNeg, Int.reduceAdd, Int.reduceLE, Int.reduceLT, Int.reduceEq, Int.reduceNe, true_and, and_true, true_or, and_self, ne_eq, not_false_eq_true, Bool.false_eq_true, reduceCtorEq, rd_l1, rd_l2, rd_l3, rd_l4, rd_l5, rd_l6, rd_l7, rd_l8, rd_l9, SB, rd_ge, i2b_2, false_and, and_false, not_true_eq_false, l433_0, l433_2, l433_50, l433_52, l433_61, s433_0, s433_2, s433_50, s433_52, s433_61, zM_18, zM_19, zM_20, zM_21, zM_22, zM_23, zM_24, zM_25, zM_26, zM_27, zM_28, zM_29, zM_30, zM_31, zM_32, zM_33, zM_34, zM_35, zM_36, zM_37, zM_38, zM_39, zM_40, zM_41, zM_42, zM_43, zM_44, zM_45, zM_46, zM_47, zM_48, zM_49, zM_50, zM_51, zM_52, zM_53, zM_54, zM_55, zM_56, zM_57, zM_58, zM_59, zM_60, zM_61, zM_62, zM_63, zM_64, zM_65, zM_66, zM_67, zM_68, zM_69, zM_70, zM_71, zM_72, zM_73, zM_74, zM_75, zM_76, zM_77, zM_78, zM_79, zM_80, zM_81, zM_82, zM_83, zM_84, zM_85, zM_86, zM_87, zM_88, zM_89, zM_90, zM_91, zM_92, zM_93, zM_94, zM_95, zM_96, zM_97, zM_98, zM_99, zM_100, zM_101, zM_102, zM_103, zM_104, zM_105, zM_106, zM_107, zM_108, zM_109, zM_110, zM_111, zM_112, zM_113, zM_114, zM_115, zM_116, zM_117, zM_118, zM_119]
  refine lp (F := fun i => ∀ (w1 : Mem) (o4 : Option V), PLn w1 (P ++ slc (bdf tag len f) 0 i.toNat) → Fz plM w w1 → J2 A (fun Q => T_at gM 433 2 [some (vR 33 17), some (vI b), some (vI hd), some (vI i), o4] [] m w1 (KM Q)) Φ) (b := 0) (n := len) l0.1 ?_ ?_ w none (by rw [show (0 : Int).toNat = 0 from rfl, slc, List.append_nil]; exact PL) Fz_0
  · intro i i0 i1 ih w1 o4 P1 F1
    have fi := ef i i0 i1
    have e52 : w1 52 (12000 * b + i) = f i := by rw [F1 _ _ (by unfold plM; omega)]; exact fi.1
    have e53 : w1 53 b = len := by rw [F1 _ _ (by unfold plM; omega)]; exact el
    have bi := m_byteIn (m := m) (w := w1) (b := b) (i := i) b0 (by omega)
    rw [e52] at bi
    rw [show (i + 1).toNat = i.toNat + 1 by omega, slc, show (0 : Int) + ((i.toNat : Nat) : Int) = i by omega, ← List.append_assoc] at ih
    have go : ∀ v, i2b v = bdf tag len f i → J2 A (fun Q => T gM 430 [vR 33 17, vI v] m w1 (kV (thr (KM Q)) fun n h => i32 (i + 1) ∧ T_at gM 433 2 [some (vR 33 17), some (vI b), some (vI hd), some (vI (i + 1)), some (vI (f i % 256))] [] n h (KM Q))) Φ := by
      intro v ev
      obtain ⟨w2, e2, P2, F2⟩ := m_430 (m := m) (v := v) P1 (by rw [List.length_append, slc_l]; omega)
      rw [ev] at P2
      refine J_RV e2 (J_andR (by unfold i32; omega) ?_)
      exact ih w2 _ P2 (Fz_tr F1 F2)
    have pl1 : i2b (f i % 256) = f i := by rw [i2b_eq]; omega
    refine J_impR (fun Q hq => blk (md := true) [2] 99 GM FM rfl k433 hq) ?_
    simp -implicitDefEqProofs only [r_iconst, r_bipush, r_sipush, r_ldc, r_ldc_w, r_lconst, r_ldc2_w, r_aconst_null, r_iload, r_iload_n, r_lload, r_lload_n, r_aload, r_aload_n, r_istore, r_istore_n, r_lstore, r_lstore_n, r_astore, r_astore_n, r_iinc, r_iadd, r_iaddW, r_isub, r_isubW, r_imul, r_imulW, r_ladd, r_laddW, r_lsub, r_lsubW, r_lmul, r_lmulW, r_iand, r_ior, r_ishl, r_ishr, r_iushr, r_land, r_lor, r_lshl, r_lshr, r_lushr, r_idiv, r_irem, r_ldiv, r_lrem, r_lcmp, r_ineg, r_i2l, r_l2i, r_i2b, r_i2s, r_i2c, r_dup, r_pop, r_dup_x1, r_dup_x2, r_dup2, r_dup2L, r_icmp_eq, r_icmp_ne, r_icmp_lt, r_icmp_ge, r_icmp_gt, r_icmp_le, r_if_eq, r_if_ne, r_if_lt, r_if_ge, r_if_gt, r_if_le, r_acmp_eq, r_acmp_ne, r_ifnull, r_ifnonnull, r_goto, r_nop, r_tsw, r_lsw, r_getfield, r_getfinal, r_putfield, r_getstaticL, r_getstaticR, r_iaload, r_baload, r_saload, r_laload, r_aaload, r_aaloadM, r_iastore, r_bastore, r_zastore, r_sastore, r_lastore, r_aastore, r_alen, r_new, r_newarray, r_anewarray, r_invV, r_invI, r_objI, r_invS, r_acp, r_ireturn, r_zreturn, r_lreturn, r_return, r_areturn, r_athrow, ↓e_pI, ↓e_pL, ↓e_pR, ↓e_lg0, ↓e_lg1, ↓e_tk0, ↓e_tkI0, ↓e_tkI1, ↓e_tkI2, ↓e_tkI3, ↓e_tkI4, ↓e_tkL, ↓e_tkR0_0, ↓e_tkR0_1, ↓e_tkR1_0, ↓e_tkR1_1, ↓e_tkR2_0, ↓e_tkR2_1, ↓e_tkR3_0, ↓e_tkR3_1, ↓e_tkR4_0, ↓e_tkR4_1, ↓e_tkR5_0, ↓e_tkR5_1, ↓e_tkR6_0, ↓e_tkR6_1, ↓e_tkR7_0, ↓e_tkR7_1, ↓e_tkR8_0, ↓e_tkR8_1, ↓e_tkR9_0, ↓e_tkR9_1, ↓e_tkR10_0, ↓e_tkR10_1, ↓e_tkR11_0, ↓e_tkR11_1, ↓e_tkR12_0, ↓e_tkR12_1, ↓e_tkR13_0, ↓e_tkR13_1, ↓e_tkR14_0, ↓e_tkR14_1, ↓e_tkR15_0, ↓e_tkR15_1, ↓e_tkR16_0, ↓e_tkR16_1, ↓e_tkR17_0, ↓e_tkR17_1, ↓e_tkR39_0, ↓e_tkR39_1, ↓e_tkR40_0, ↓e_tkR40_1, ↓e_tkR41_0, ↓e_tkR41_1, ↓e_tkR42_0, ↓e_tkR42_1, ↓e_tkR43_0, ↓e_tkR43_1, ↓e_tkR44_0, ↓e_tkR44_1, ↓e_tkR45_0, ↓e_tkR45_1, ↓e_tkR46_0, ↓e_tkR46_1, ↓e_tkR47_0, ↓e_tkR47_1, ↓e_tkR48_0, ↓e_tkR48_1, ↓e_pv0, ↓e_pv1, ↓e_pv2, ↓e_pv3, ↓e_pv5, ↓e_pvR, ↓e_tsw0, ↓e_tsw1, ↓e_lsw0, ↓e_lsw1, e_kq100, e_kq0, e_kq3, e_kq5, e_kqR0, e_kqR1, e_kqR2, e_kqR3, e_kqR4, e_kqR5, e_kqR6, e_kqR7, e_kqR8, e_kqR9, e_kqR10, e_kqR11, e_kqR12, e_kqR13, e_kqR14, e_kqR15, e_kqR16, e_kqR17, e_kqR39, e_kqR40, e_kqR41, e_kqR42, e_kqR43, e_kqR44, e_kqR45, e_kqR46, e_kqR47, e_kqR48, e_st0I, e_st0R, e_st0L, e_st1N, e_st1I, e_st1L, e_st1R, e_st2, e_wd0, e_wdI, e_wdL, e_wdR, e_c1I, e_c1R, e_gv0, e_gv1, e_gv2, e_gv3, e_gv4, e_gv5, e_gvR0, e_gvR1, e_gvR2, e_gvR3, e_gvR4, e_gvR5, e_gvR6, e_gvR7, e_gvR8, e_gvR9, e_gvR10, e_gvR11, e_gvR12, e_gvR13, e_gvR14, e_gvR15, e_gvR16, e_gvR17, e_gvR39, e_gvR40, e_gvR41, e_gvR42, e_gvR43, e_gvR44, e_gvR45, e_gvR46, e_gvR47, e_gvR48, e_kX0, e_kX1, e_kVv, e_kVx, e_kIv, e_kIx, e_kLv, e_kLx, e_kRv, e_kRx, e_thr, e_lk1, e_ic0, e_ic1, e_jm, st_ap, clr_ap, e_lceq, e_lclt, e_lcgt, nn, ↓reduceIte, Nat.reduceDiv, Nat.reduceMod, Nat.reduceMul, Nat.reduceAdd, Nat.reduceEqDiff, Nat.reduceLeDiff, Int.reduceNatCast, Int.cast_ofNat_Int, Int.reduceSub, Int.reduceMul, Int.reduceNeg, Int.reduceAdd, Int.reduceLE, Int.reduceLT, Int.reduceEq, Int.reduceNe, true_and, and_true, true_or, and_self, ne_eq, not_false_eq_true, Bool.false_eq_true, reduceCtorEq, rd_l1, rd_l2, rd_l3, rd_l4, rd_l5, rd_l6, rd_l7, rd_l8, rd_l9, SB, rd_ge, i2b_2, false_and, and_false, not_true_eq_false, l433_0, l433_2, l433_50, l433_52, l433_61, s433_0, s433_2, s433_50, s433_52, s433_61, zM_18, zM_19, zM_20, zM_21, zM_22, zM_23, zM_24, zM_25, zM_26, zM_27, zM_28, zM_29, zM_30, zM_31, zM_32, zM_33, zM_34, zM_35, zM_36, zM_37, zM_38, zM_39, zM_40, zM_41, zM_42, zM_43, zM_44, zM_45, zM_46, zM_47, zM_48, zM_49, zM_50, zM_51, zM_52, zM_53, zM_54, zM_55, zM_56, zM_57, zM_58, zM_59, zM_60, zM_61, zM_62, zM_63, zM_64, zM_65, zM_66, zM_67, zM_68, zM_69, zM_70, zM_71, zM_72, zM_73, zM_74, zM_75, zM_76, zM_77, zM_78, zM_79, zM_80, zM_81, zM_82, zM_83, zM_84, zM_85, zM_86, zM_87, zM_88, zM_89, zM_90, zM_91, zM_92, zM_93, zM_94, zM_95, zM_96, zM_97, zM_98, zM_99, zM_100, zM_101, zM_102, zM_103, zM_104, zM_105, zM_106, zM_107, zM_108, zM_109, zM_110, zM_111, zM_112, zM_113, zM_114, zM_115, zM_116, zM_117, zM_118, zM_119]
    rw [e53]
    refine J_andR b0.1 (J_andR b0.2 (J_posR i1 (J_RI bi ?_)))
    rw [e53]
    rcases ht with ⟨a1, a2⟩ | ⟨a1, a2⟩
    · refine J_negR (by omega) (J_andR b0.1 (J_andR b0.2 ?_))
      by_cases q : len < 18
      · refine J_posR q (go _ ?_)
        rw [pl1]; unfold bdf; rw [if_neg (by omega)]
      · refine J_negR q ?_
        by_cases q2 : i = 16
        · refine J_posR q2 (go _ ?_)
          rw [ior_256]; unfold bdf; rw [if_pos ⟨a2, by omega, q2⟩]
        · refine J_negR q2 (go _ ?_)
          rw [pl1]; unfold bdf; rw [if_neg (by omega)]
    · refine J_posR a1 (go _ ?_)
      rw [pl1]; unfold bdf; rw [if_neg (fun z => a2 z.1)]
  · intro w1 o4 P1 F1
    refine J_impR (fun Q hq => blk (md := true) [2] 99 GM FM rfl k433 hq) ?_
    simp -implicitDefEqProofs only [r_iconst, r_bipush, r_sipush, r_ldc, r_ldc_w, r_lconst, r_ldc2_w, r_aconst_null, r_iload, r_iload_n, r_lload, r_lload_n, r_aload, r_aload_n, r_istore, r_istore_n, r_lstore, r_lstore_n, r_astore, r_astore_n, r_iinc, r_iadd, r_iaddW, r_isub, r_isubW, r_imul, r_imulW, r_ladd, r_laddW, r_lsub, r_lsubW, r_lmul, r_lmulW, r_iand, r_ior, r_ishl, r_ishr, r_iushr, r_land, r_lor, r_lshl, r_lshr, r_lushr, r_idiv, r_irem, r_ldiv, r_lrem, r_lcmp, r_ineg, r_i2l, r_l2i, r_i2b, r_i2s, r_i2c, r_dup, r_pop, r_dup_x1, r_dup_x2, r_dup2, r_dup2L, r_icmp_eq, r_icmp_ne, r_icmp_lt, r_icmp_ge, r_icmp_gt, r_icmp_le, r_if_eq, r_if_ne, r_if_lt, r_if_ge, r_if_gt, r_if_le, r_acmp_eq, r_acmp_ne, r_ifnull, r_ifnonnull, r_goto, r_nop, r_tsw, r_lsw, r_getfield, r_getfinal, r_putfield, r_getstaticL, r_getstaticR, r_iaload, r_baload, r_saload, r_laload, r_aaload, r_aaloadM, r_iastore, r_bastore, r_zastore, r_sastore, r_lastore, r_aastore, r_alen, r_new, r_newarray, r_anewarray, r_invV, r_invI, r_objI, r_invS, r_acp, r_ireturn, r_zreturn, r_lreturn, r_return, r_areturn, r_athrow, ↓e_pI, ↓e_pL, ↓e_pR, ↓e_lg0, ↓e_lg1, ↓e_tk0, ↓e_tkI0, ↓e_tkI1, ↓e_tkI2, ↓e_tkI3, ↓e_tkI4, ↓e_tkL, ↓e_tkR0_0, ↓e_tkR0_1, ↓e_tkR1_0, ↓e_tkR1_1, ↓e_tkR2_0, ↓e_tkR2_1, ↓e_tkR3_0, ↓e_tkR3_1, ↓e_tkR4_0, ↓e_tkR4_1, ↓e_tkR5_0, ↓e_tkR5_1, ↓e_tkR6_0, ↓e_tkR6_1, ↓e_tkR7_0, ↓e_tkR7_1, ↓e_tkR8_0, ↓e_tkR8_1, ↓e_tkR9_0, ↓e_tkR9_1, ↓e_tkR10_0, ↓e_tkR10_1, ↓e_tkR11_0, ↓e_tkR11_1, ↓e_tkR12_0, ↓e_tkR12_1, ↓e_tkR13_0, ↓e_tkR13_1, ↓e_tkR14_0, ↓e_tkR14_1, ↓e_tkR15_0, ↓e_tkR15_1, ↓e_tkR16_0, ↓e_tkR16_1, ↓e_tkR17_0, ↓e_tkR17_1, ↓e_tkR39_0, ↓e_tkR39_1, ↓e_tkR40_0, ↓e_tkR40_1, ↓e_tkR41_0, ↓e_tkR41_1, ↓e_tkR42_0, ↓e_tkR42_1, ↓e_tkR43_0, ↓e_tkR43_1, ↓e_tkR44_0, ↓e_tkR44_1, ↓e_tkR45_0, ↓e_tkR45_1, ↓e_tkR46_0, ↓e_tkR46_1, ↓e_tkR47_0, ↓e_tkR47_1, ↓e_tkR48_0, ↓e_tkR48_1, ↓e_pv0, ↓e_pv1, ↓e_pv2, ↓e_pv3, ↓e_pv5, ↓e_pvR, ↓e_tsw0, ↓e_tsw1, ↓e_lsw0, ↓e_lsw1, e_kq100, e_kq0, e_kq3, e_kq5, e_kqR0, e_kqR1, e_kqR2, e_kqR3, e_kqR4, e_kqR5, e_kqR6, e_kqR7, e_kqR8, e_kqR9, e_kqR10, e_kqR11, e_kqR12, e_kqR13, e_kqR14, e_kqR15, e_kqR16, e_kqR17, e_kqR39, e_kqR40, e_kqR41, e_kqR42, e_kqR43, e_kqR44, e_kqR45, e_kqR46, e_kqR47, e_kqR48, e_st0I, e_st0R, e_st0L, e_st1N, e_st1I, e_st1L, e_st1R, e_st2, e_wd0, e_wdI, e_wdL, e_wdR, e_c1I, e_c1R, e_gv0, e_gv1, e_gv2, e_gv3, e_gv4, e_gv5, e_gvR0, e_gvR1, e_gvR2, e_gvR3, e_gvR4, e_gvR5, e_gvR6, e_gvR7, e_gvR8, e_gvR9, e_gvR10, e_gvR11, e_gvR12, e_gvR13, e_gvR14, e_gvR15, e_gvR16, e_gvR17, e_gvR39, e_gvR40, e_gvR41, e_gvR42, e_gvR43, e_gvR44, e_gvR45, e_gvR46, e_gvR47, e_gvR48, e_kX0, e_kX1, e_kVv, e_kVx, e_kIv, e_kIx, e_kLv, e_kLx, e_kRv, e_kRx, e_thr, e_lk1, e_ic0, e_ic1, e_jm, st_ap, clr_ap, e_lceq, e_lclt, e_lcgt, nn, ↓reduceIte, Nat.reduceDiv, Nat.reduceMod, Nat.reduceMul, Nat.reduceAdd, Nat.reduceEqDiff, Nat.reduceLeDiff, Int.reduceNatCast, Int.cast_ofNat_Int, Int.reduceSub, Int.reduceMul, Int.reduceNeg, Int.reduceAdd, Int.reduceLE, Int.reduceLT, Int.reduceEq, Int.reduceNe, true_and, and_true, true_or, and_self, ne_eq, not_false_eq_true, Bool.false_eq_true, reduceCtorEq, rd_l1, rd_l2, rd_l3, rd_l4, rd_l5, rd_l6, rd_l7, rd_l8, rd_l9, SB, rd_ge, i2b_2, false_and, and_false, not_true_eq_false, l433_0, l433_2, l433_50, l433_52, l433_61, s433_0, s433_2, s433_50, s433_52, s433_61, zM_18, zM_19, zM_20, zM_21, zM_22, zM_23, zM_24, zM_25, zM_26, zM_27, zM_28, zM_29, zM_30, zM_31, zM_32, zM_33, zM_34, zM_35, zM_36, zM_37, zM_38, zM_39, zM_40, zM_41, zM_42, zM_43, zM_44, zM_45, zM_46, zM_47, zM_48, zM_49, zM_50, zM_51, zM_52, zM_53, zM_54, zM_55, zM_56, zM_57, zM_58, zM_59, zM_60, zM_61, zM_62, zM_63, zM_64, zM_65, zM_66, zM_67, zM_68, zM_69, zM_70, zM_71, zM_72, zM_73, zM_74, zM_75, zM_76, zM_77, zM_78, zM_79, zM_80, zM_81, zM_82, zM_83, zM_84, zM_85, zM_86, zM_87, zM_88, zM_89, zM_90, zM_91, zM_92, zM_93, zM_94, zM_95, zM_96, zM_97, zM_98, zM_99, zM_100, zM_101, zM_102, zM_103, zM_104, zM_105, zM_106, zM_107, zM_108, zM_109, zM_110, zM_111, zM_112, zM_113, zM_114, zM_115, zM_116, zM_117, zM_118, zM_119]
    rw [F1 53 b (by unfold plM; omega), el]
    refine J_andR b0.1 (J_andR b0.2 (J_negR (by omega) ?_))
    exact fin w1 P1 F1
/-- and by the house (196@271) -/
theorem c_ebody {e x2 x7 x8 k tag fr len : Int} {P : List Int} (k0 : 0 ≤ k ∧ k < 112) (el : h (28 + 2 * k) 1 = len) (l0 : 0 ≤ len ∧ len ≤ 12000) (B0 : BG h 426 16000 P) (er : (P.length : Int) ≤ 16000 → fr = P.length)
    (fin : ∀ h1 : Mem, BG h1 426 16000 (P ++ bdL tag len (h (29 + 2 * k))) → Fz (bgF 426) h h1 → J2 (fun Q => T_at gC 196 331 [some (vR 27 418), some (vI e), some (vI x2), some (vR 2 (28 + 2 * k)), some (vL tag), none, some (vI fr), some (vI x7), some (vI x8)] [] n h1 (KL Q)) B Φ) :
    J2 (fun Q => T_at gC 196 271 [some (vR 27 418), some (vI e), some (vI x2), some (vR 2 (28 + 2 * k)), some (vL tag), none, some (vI fr), some (vI x7), some (vI x8)] [] n h (KL Q)) B Φ := by
  obtain ⟨h1, e1, B1, F1⟩ := c_appG (n := n) (p := 28 + 2 * k) (f := 0) (k := len) (o := 426) (c := 16000) (by decide +kernel) (by omega) (by omega) (by omega) (by omega) (by omega) (by omega) (by rw [bsz8 k0]; omega) B0
  rw [show (28 : Int) + 2 * k + 1 = 29 + 2 * k by omega] at B1
  have pl : ∀ (h9 : Mem), BG h9 426 16000 (P ++ slc (h (29 + 2 * k)) 0 len.toNat) → (16000 < ((P ++ slc (h (29 + 2 * k)) 0 len.toNat).length : Int) ∨ ¬ (tag = 1751474532 ∧ 18 ≤ len)) → BG h9 426 16000 (P ++ bdL tag len (h (29 + 2 * k))) := by
    intro h9 B9 q
    rcases q with q | q
    · rcases B9 with ⟨z, -⟩ | ⟨z, zz⟩
      · omega
      · refine Or.inr ⟨?_, zz⟩
        rw [List.length_append, slc_l] at q
        rw [List.length_append]; unfold bdL; rw [slc_l]; exact q
    · unfold bdL
      rw [show slc (bdf tag len (h (29 + 2 * k))) 0 len.toNat = slc (h (29 + 2 * k)) 0 len.toNat from slc_c (fun i hi => by unfold bdf; rw [if_neg (fun z => q ⟨z.1, z.2.1⟩)])]
      exact B9
  refine J_impL (fun Q hq => blk (md := true) [142, 143, 166, 167, 205, 243, 261, 271, 331] 99 GC FC rfl k196 hq) ?_
  simp -implicitDefEqProofs only [r_iconst, r_bipush, r_sipush, r_ldc, r_ldc_w, r_lconst, r_ldc2_w, r_aconst_null, r_iload, r_iload_n, r_lload, r_lload_n, r_aload, r_aload_n, r_istore, r_istore_n, r_lstore, r_lstore_n, r_astore, r_astore_n, r_iinc, r_iadd, r_iaddW, r_isub, r_isubW, r_imul, r_imulW, r_ladd, r_laddW, r_lsub, r_lsubW, r_lmul, r_lmulW, r_iand, r_ior, r_ishl, r_ishr, r_iushr, r_land, r_lor, r_lshl, r_lshr, r_lushr, r_idiv, r_irem, r_ldiv, r_lrem, r_lcmp, r_ineg, r_i2l, r_l2i, r_i2b, r_i2s, r_i2c, r_dup, r_pop, r_dup_x1, r_dup_x2, r_dup2, r_dup2L, r_icmp_eq, r_icmp_ne, r_icmp_lt, r_icmp_ge, r_icmp_gt, r_icmp_le, r_if_eq, r_if_ne, r_if_lt, r_if_ge, r_if_gt, r_if_le, r_acmp_eq, r_acmp_ne, r_ifnull, r_ifnonnull, r_goto, r_nop, r_tsw, r_lsw, r_getfield, r_getfinal, r_putfield, r_getstaticL, r_getstaticR, r_iaload, r_baload, r_saload, r_laload, r_aaload, r_aaloadM, r_iastore, r_bastore, r_zastore, r_sastore, r_lastore, r_aastore, r_alen, r_new, r_newarray, r_anewarray, r_invV, r_invI, r_objI, r_invS, r_acp, r_ireturn, r_zreturn, r_lreturn, r_return, r_areturn, r_athrow, ↓e_pI, ↓e_pL, ↓e_pR, ↓e_lg0, ↓e_lg1, ↓e_tk0, ↓e_tkI0, ↓e_tkI1, ↓e_tkI2, ↓e_tkI3, ↓e_tkI4, ↓e_tkL, ↓e_tkR0_0, ↓e_tkR0_1, ↓e_tkR1_0, ↓e_tkR1_1, ↓e_tkR2_0, ↓e_tkR2_1, ↓e_tkR3_0, ↓e_tkR3_1, ↓e_tkR4_0, ↓e_tkR4_1, ↓e_tkR5_0, ↓e_tkR5_1, ↓e_tkR6_0, ↓e_tkR6_1, ↓e_tkR7_0, ↓e_tkR7_1, ↓e_tkR8_0, ↓e_tkR8_1, ↓e_tkR9_0, ↓e_tkR9_1, ↓e_tkR10_0, ↓e_tkR10_1, ↓e_tkR11_0, ↓e_tkR11_1, ↓e_tkR12_0, ↓e_tkR12_1, ↓e_tkR13_0, ↓e_tkR13_1, ↓e_tkR14_0, ↓e_tkR14_1, ↓e_tkR15_0, ↓e_tkR15_1, ↓e_tkR16_0, ↓e_tkR16_1, ↓e_tkR17_0, ↓e_tkR17_1, ↓e_tkR39_0, ↓e_tkR39_1, ↓e_tkR40_0, ↓e_tkR40_1, ↓e_tkR41_0, ↓e_tkR41_1, ↓e_tkR42_0, ↓e_tkR42_1, ↓e_tkR43_0, ↓e_tkR43_1, ↓e_tkR44_0, ↓e_tkR44_1, ↓e_tkR45_0, ↓e_tkR45_1, ↓e_tkR46_0, ↓e_tkR46_1, ↓e_tkR47_0, ↓e_tkR47_1, ↓e_tkR48_0, ↓e_tkR48_1, ↓e_pv0, ↓e_pv1, ↓e_pv2, ↓e_pv3, ↓e_pv5, ↓e_pvR, ↓e_tsw0, ↓e_tsw1, ↓e_lsw0, ↓e_lsw1, e_kq100, e_kq0, e_kq3, e_kq5, e_kqR0, e_kqR1, e_kqR2, e_kqR3, e_kqR4, e_kqR5, e_kqR6, e_kqR7, e_kqR8, e_kqR9, e_kqR10, e_kqR11, e_kqR12, e_kqR13, e_kqR14, e_kqR15, e_kqR16, e_kqR17, e_kqR39, e_kqR40, e_kqR41, e_kqR42, e_kqR43, e_kqR44, e_kqR45, e_kqR46, e_kqR47, e_kqR48, e_st0I, e_st0R, e_st0L, e_st1N, e_st1I, e_st1L, e_st1R, e_st2, e_wd0, e_wdI, e_wdL, e_wdR, e_c1I, e_c1R, e_gv0, e_gv1, e_gv2, e_gv3, e_gv4, e_gv5, e_gvR0, e_gvR1, e_gvR2, e_gvR3, e_gvR4, e_gvR5, e_gvR6, e_gvR7, e_gvR8, e_gvR9, e_gvR10, e_gvR11, e_gvR12, e_gvR13, e_gvR14, e_gvR15, e_gvR16, e_gvR17, e_gvR39, e_gvR40, e_gvR41, e_gvR42, e_gvR43, e_gvR44, e_gvR45, e_gvR46, e_gvR47, e_gvR48, e_kX0, e_kX1, e_kVv, e_kVx, e_kIv, e_kIx, e_kLv, e_kLx, e_kRv, e_kRx, e_thr, e_lk1, e_ic0, e_ic1, e_jm, st_ap, clr_ap, e_lceq, e_lclt, e_lcgt, nn, ↓reduceIte, Nat.reduceDiv, Nat.reduceMod, Nat.reduceMul, Nat.reduceAdd, Nat.reduceEqDiff, Nat.reduceLeDiff, Int.reduceNatCast, Int.cast_ofNat_Int, Int.reduceSub, Int.reduceMul, Int.reduceNeg, Int.reduceAdd, Int.reduceLE, Int.reduceLT, Int.reduceEq, Int.reduceNe, true_and, and_true, true_or, and_self, ne_eq, not_false_eq_true, Bool.false_eq_true, reduceCtorEq, rd_l1, rd_l2, rd_l3, rd_l4, rd_l5, rd_l6, rd_l7, rd_l8, rd_l9, SB, rd_ge, i2b_2, false_and, and_false, not_true_eq_false, l196_0, l196_60, l196_87, l196_91, l196_142, l196_143, l196_166, l196_167, l196_205, l196_229, l196_243, l196_261, l196_271, l196_331, s196_0, s196_60, s196_87, s196_91, s196_142, s196_143, s196_166, s196_167, s196_205, s196_229, s196_243, s196_261, s196_271, s196_331, zC_18, zC_20, zC_21, zC_22, zC_23, zC_25, zC_26, zC_253, zC_254, zC_256, zC_257, zC_259, zC_260, zC_262, zC_263, zC_265, zC_266, zC_268, zC_269, zC_271, zC_272, zC_274, zC_275, zC_278, zC_279, zC_280, zC_281, zC_282, zC_284, zC_285, zC_287, zC_288, zC_290, zC_291, zC_293, zC_294, zC_296, zC_297, zC_299, zC_300, zC_302, zC_303, zC_304, zC_305, zC_306, zC_307, zC_308, zC_309, zC_310, zC_311, zC_312, zC_315, zC_316, zC_317, zC_319, zC_320, zC_321, zC_323, zC_324, zC_325, zC_327, zC_328, zC_329, zC_331, zC_332, zC_333, zC_335, zC_336, zC_337, zC_339, zC_340, zC_341, zC_343, zC_344, zC_345, zC_347, zC_348, zC_349, zC_350, zC_351, zC_352, zC_353, zC_354, zC_355, zC_356, zC_357, zC_358, zC_359, zC_361, zC_362, zC_363, zC_364, zC_367, zC_368, zC_369, zC_370, zC_371, zC_372, zC_373, zC_374, zC_375, zC_376, zC_378, zC_380, zC_381, zC_383, zC_384, zC_386, zC_387, zC_389, zC_390, zC_391, zC_392, zC_393, zC_394, zC_395, zC_396, zC_397, zC_398, zC_400, zC_402, zC_403, zC_405, zC_407, zC_409, zC_411, zC_413, zC_415, zC_417, zC_420, zC_421, zC_422, zC_423, zC_424, zC_425, zC_427, zC_429, zC_431, zC_433, zC_436, zC_437, zC_438, zC_439, zC_440, zC_441, zC_442, zC_443, zC_444, zC_445, zC_447, zC_448, zC_450, zC_451, zC_453, zC_454, zC_455, zC_456, zC_457, zC_458, zC_460, zC_461, zC_462, zC_463, zC_464, zC_465, zC_466, zC_467, zC_468, zC_469, zC_471, zC_473, zC_474, zC_476, zC_477, zC_478, zC_479, zC_480, zC_481, zC_482, zC_483, zC_484, zC_485, zC_487, zC_489, zC_490, zC_491, zC_493, zC_495, zC_497, zC_499]
  rw [el]
  refine J_andL (by omega) (J_LV e1 ?_)
  rw [F1 (28 + 2 * k) 1 (by unfold bgF; omega), el]
  by_cases ht : tag = 1751474532
  · refine J_posL ht (J_andL (by omega) ?_)
    by_cases q : len < 18
    · refine J_posL q ?_
      exact fin h1 (pl h1 B1 (Or.inr (by omega))) F1
    · refine J_negL q ?_
      rcases id B1 with ⟨b1, b2, b3⟩ | ⟨b1, b2, b3⟩
      · rw [List.length_append, slc_l] at b1
        have efr := er (by omega)
        refine J_posL b2 (J_andL (by unfold i32; omega) (J_andL (by omega) (J_andL (by omega) (J_andL (by omega) (J_andL (by omega) ?_)))))
        have ev : h1 427 (fr + 16) = h (29 + 2 * k) 16 := by
          have := b3.2 (P.length + 16) (by rw [List.length_append, slc_l]; omega)
          rw [gD_r (by omega), show P.length + 16 - P.length = 16 by omega, slc_g _ _ _ _ (by omega)] at this
          rw [efr, show ((P.length : Int) + 16) = ((P.length + 16 : Nat) : Int) by omega]
          exact this
        rw [ev]
        have B2 := bg_set (v := i2b (ior (h (29 + 2 * k) 16) 8)) (j := fr + 16) B1 (by rw [List.length_append, slc_l]; omega) (by rw [List.length_append, slc_l]; omega)
        have eL : (P ++ slc (h (29 + 2 * k)) 0 len.toNat).set (fr + 16).toNat (i2b (ior (h (29 + 2 * k) 16) 8)) = P ++ bdL tag len (h (29 + 2 * k)) := by
          rw [show (fr + 16).toNat = P.length + 16 by omega, List.set_append_right _ _ (by omega), show P.length + 16 - P.length = 16 by omega]
          congr 1
          unfold bdL
          have lz : ((slc (h (29 + 2 * k)) 0 len.toNat).set 16 (i2b (ior (h (29 + 2 * k) 16) 8))).length = len.toNat := by rw [List.length_set, slc_l]
          have := slc_eL (g := bdf tag len (h (29 + 2 * k))) (f := 0) (L := (slc (h (29 + 2 * k)) 0 len.toNat).set 16 (i2b (ior (h (29 + 2 * k) 16) 8))) (fun i hi => by
            rw [lz] at hi
            rw [List.getD_eq_getElem?_getD, List.getElem?_set]
            unfold bdf
            by_cases e16 : 16 = i
            · rw [if_pos e16, if_pos (show tag = 1751474532 ∧ 18 ≤ len ∧ (0 : Int) + (i : Int) = 16 from ⟨ht, by omega, by omega⟩), if_pos (by rw [slc_l]; omega), show (0 : Int) + (i : Int) = 16 by omega]; rfl
            · rw [if_neg e16, if_neg (by omega), ← List.getD_eq_getElem?_getD, slc_g _ _ _ _ hi])
          rw [lz] at this
          exact this.symm
        rw [eL] at B2
        exact fin _ B2 (Fz_st F1 (by unfold bgF; omega))
      · refine J_negL (by omega) ?_
        exact fin h1 (pl h1 B1 (Or.inl b1)) F1
  · refine J_negL ht ?_
    exact fin h1 (pl h1 B1 (Or.inr (fun z => ht z.1))) F1
end
