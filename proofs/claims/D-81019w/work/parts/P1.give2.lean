set_option maxRecDepth 100000
theorem ENF_t {F : Int} {sf cf : Int → Int} {w w1 : Mem} (N : ENF F sf cf w) (d : ∀ a j, a = 61 ∨ a = 62 → w1 a j = w a j) : ENF F sf cf w1 := fun f k a b c e => by
  rw [d _ _ (Or.inr rfl), d _ _ (Or.inl rfl)]; exact N f k a b c e
section
variable {A B : Qt → Prop} {Φ : Out → Int → Mem → Out → Int → Mem → Prop} {KL KM : Qt → Qt} {n m : Int} {h w : Mem} {r s : Int} {b : Int → Int}
theorem sam_s {w : Mem} {d e : Int} (q : sam w d e) : sam w e d := ⟨q.1.symm, q.2.1.symm, q.2.2.symm⟩
theorem sam_tr {w : Mem} {d e f : Int} (q : sam w d e) (p : sam w e f) : sam w d f := ⟨q.1.trans p.1, q.2.1.trans p.2.1, q.2.2.trans p.2.2⟩
/-- the bytes of an entry, copied by the model (335@144) -/
theorem m_cpE {x2 e E bb : Int} (R : RDR r s b h w) (N : ENT E s b h w) (e0 : 0 ≤ e ∧ e < E) (b0 : 0 ≤ bb ∧ bb < 120)
    (fin : ∀ (w1 : Mem), (∀ i, 0 ≤ i → i < w 65 e → w1 52 (12000 * bb + i) = b (w 64 e + i)) → Fz (fun a j => a = 52 ∧ 12000 * bb ≤ j ∧ j < 12000 * bb + 12000) w w1 → J2 A (fun Q => T_at gM 335 203 [some (vR 33 17), some (vI r), some (vI x2), some (vI e), some (vI bb), some (vI (w 65 e))] [] m (st w1 66 e bb) (KM Q)) Φ) :
    J2 A (fun Q => T_at gM 335 144 [some (vR 33 17), some (vI r), some (vI x2), some (vI e), some (vI bb), some (vI 0)] [] m w (KM Q)) Φ := by
  obtain ⟨t1, t2, t3, t4, t5⟩ := id N
  obtain ⟨b1, b2, ⟨b3, b4, b5⟩, b6, b7, b8⟩ := t4 e e0.1 e0.2
  obtain ⟨r1, r2, r3, r4, r5, r6⟩ := id R
  refine lp (F := fun i => ∀ w1 : Mem, (∀ j, 0 ≤ j → j < i → w1 52 (12000 * bb + j) = b (w 64 e + j)) → Fz (fun a j => a = 52 ∧ 12000 * bb ≤ j ∧ j < 12000 * bb + 12000) w w1 → J2 A (fun Q => T_at gM 335 144 [some (vR 33 17), some (vI r), some (vI x2), some (vI e), some (vI bb), some (vI i)] [] m w1 (KM Q)) Φ) (b := 0) (n := w 65 e) (by omega) ?_ ?_ w (fun j x y => by omega) Fz_0
  · intro i i0 i1 ih w1 P G
    have q := r6 (w 64 e + i) (by omega) (by omega)
    have e5 : w1 65 e = w 65 e := G _ _ (by omega)
    have e4' : w1 64 e = w 64 e := G _ _ (by omega)
    have e18 : w1 18 (16000 * r + w 64 e + i) = b (w 64 e + i) := by rw [G _ _ (by omega), Int.add_assoc]; exact q.2.1
    have ih' := ih (st w1 52 (12000 * bb + i) (b (w 64 e + i))) (fun j x y => by
      by_cases ji : j = i
      · rw [ji, st_eq]
      · rw [st_nj (by omega)]; exact P j x (by omega)) (Fz_st G (by omega))
    refine J_impR (fun Q hq => blk (md := true) [2, 58, 76, 144, 203] 99 GM FM rfl k335 hq) ?_
    simp -implicitDefEqProofs only [r_iconst, r_bipush, r_sipush, r_ldc, r_ldc_w, r_lconst, r_ldc2_w, r_aconst_null, r_iload, r_iload_n, r_lload, r_lload_n, r_aload, r_aload_n, r_istore, r_istore_n, r_lstore, r_lstore_n, r_astore, r_astore_n, r_iinc, r_iadd, r_iaddW, r_isub, r_isubW, r_imul, r_imulW, r_ladd, r_laddW, r_lsub, r_lsubW, r_lmul, r_lmulW, r_iand, r_ior, r_ishl, r_ishr, r_iushr, r_land, r_lor, r_lshl, r_lshr, r_lushr, r_idiv, r_irem, r_ldiv, r_lrem, r_lcmp, r_ineg, r_i2l, r_l2i, r_i2b, r_i2s, r_i2c, r_dup, r_pop, r_dup_x1, r_dup_x2, r_dup2, r_dup2L, r_icmp_eq, r_icmp_ne, r_icmp_lt, r_icmp_ge, r_icmp_gt, r_icmp_le, r_if_eq, r_if_ne, r_if_lt, r_if_ge, r_if_gt, r_if_le, r_acmp_eq, r_acmp_ne, r_ifnull, r_ifnonnull, r_goto, r_nop, r_tsw, r_lsw, r_getfield, r_getfinal, r_putfield, r_getstaticL, r_getstaticR, r_iaload, r_baload, r_saload, r_laload, r_aaload, r_aaloadM, r_iastore, r_bastore, r_zastore, r_sastore, r_lastore, r_aastore, r_alen, r_new, r_newarray, r_anewarray, r_invV, r_invI, r_objI, r_invS, r_acp, r_ireturn, r_zreturn, r_lreturn, r_return, r_areturn, r_athrow, ↓e_pI, ↓e_pL, ↓e_pR, ↓e_lg0, ↓e_lg1, ↓e_tk0, ↓e_tkI0, ↓e_tkI1, ↓e_tkI2, ↓e_tkI3, ↓e_tkI4, ↓e_tkL, ↓e_tkR0_0, ↓e_tkR0_1, ↓e_tkR1_0, ↓e_tkR1_1, ↓e_tkR2_0, ↓e_tkR2_1, ↓e_tkR3_0, ↓e_tkR3_1, ↓e_tkR4_0, ↓e_tkR4_1, ↓e_tkR5_0, ↓e_tkR5_1, ↓e_tkR6_0, ↓e_tkR6_1, ↓e_tkR7_0, ↓e_tkR7_1, ↓e_tkR8_0, ↓e_tkR8_1, ↓e_tkR9_0, ↓e_tkR9_1, ↓e_tkR10_0, ↓e_tkR10_1, ↓e_tkR11_0, ↓e_tkR11_1, ↓e_tkR12_0, ↓e_tkR12_1, ↓e_tkR13_0, ↓e_tkR13_1, ↓e_tkR14_0, ↓e_tkR14_1, ↓e_tkR15_0, ↓e_tkR15_1, ↓e_tkR16_0, ↓e_tkR16_1, ↓e_tkR17_0, ↓e_tkR17_1, ↓e_tkR39_0, ↓e_tkR39_1, ↓e_tkR40_0, ↓e_tkR40_1, ↓e_tkR41_0, ↓e_tkR41_1, ↓e_tkR42_0, ↓e_tkR42_1, ↓e_tkR43_0, ↓e_tkR43_1, ↓e_tkR44_0, ↓e_tkR44_1, ↓e_tkR45_0, ↓e_tkR45_1, ↓e_tkR46_0, ↓e_tkR46_1, ↓e_tkR47_0, ↓e_tkR47_1, ↓e_tkR48_0, ↓e_tkR48_1, ↓e_pv0, ↓e_pv1, ↓e_pv2, ↓e_pv3, ↓e_pv5, ↓e_pvR, ↓e_tsw0, ↓e_tsw1, ↓e_lsw0, ↓e_lsw1, e_kq100, e_kq0, e_kq3, e_kq5, e_kqR0, e_kqR1, e_kqR2, e_kqR3, e_kqR4, e_kqR5, e_kqR6, e_kqR7, e_kqR8, e_kqR9, e_kqR10, e_kqR11, e_kqR12, e_kqR13, e_kqR14, e_kqR15, e_kqR16, e_kqR17, e_kqR39, e_kqR40, e_kqR41, e_kqR42, e_kqR43, e_kqR44, e_kqR45, e_kqR46, e_kqR47, e_kqR48, e_st0I, e_st0R, e_st0L, e_st1N, e_st1I, e_st1L, e_st1R, e_st2, e_wd0, e_wdI, e_wdL, e_wdR, e_c1I, e_c1R, e_gv0, e_gv1, e_gv2, e_gv3, e_gv4, e_gv5, e_gvR0, e_gvR1, e_gvR2, e_gvR3, e_gvR4, e_gvR5, e_gvR6, e_gvR7, e_gvR8, e_gvR9, e_gvR10, e_gvR11, e_gvR12, e_gvR13, e_gvR14, e_gvR15, e_gvR16, e_gvR17, e_gvR39, e_gvR40, e_gvR41, e_gvR42, e_gvR43, e_gvR44, e_gvR45, e_gvR46, e_gvR47, e_gvR48, e_kX0, e_kX1, e_kVv, e_kVx, e_kIv, e_kIx, e_kLv, e_kLx, e_kRv, e_kRx, e_thr, e_lk1, e_ic0, e_ic1, e_jm, st_ap, clr_ap, e_lceq, e_lclt, e_lcgt, nn, ↓reduceIte, Nat.reduceDiv, Nat.reduceMod, Nat.reduceMul, Nat.reduceAdd, Nat.reduceEqDiff, Nat.reduceLeDiff, Int.reduceNatCast, Int.cast_ofNat_Int, Int.reduceSub, Int.reduceMul, Int.reduceNeg, Int.reduceAdd, Int.reduceLE, Int.reduceLT, Int.reduceEq, Int.reduceNe, true_and, and_true, true_or, and_self, ne_eq, not_false_eq_true, Bool.false_eq_true, reduceCtorEq, rd_l1, rd_l2, rd_l3, rd_l4, rd_l5, rd_l6, rd_l7, rd_l8, rd_l9, SB, rd_ge, i2b_2, false_and, and_false, not_true_eq_false, l335_0, l335_2, l335_56, l335_58, l335_76, l335_107, l335_113, l335_120, l335_144, l335_195, l335_203, l335_233, s335_0, s335_2, s335_56, s335_58, s335_76, s335_107, s335_113, s335_120, s335_144, s335_195, s335_203, s335_233, zM_18, zM_19, zM_20, zM_21, zM_22, zM_23, zM_24, zM_25, zM_26, zM_27, zM_28, zM_29, zM_30, zM_31, zM_32, zM_33, zM_34, zM_35, zM_36, zM_37, zM_38, zM_39, zM_40, zM_41, zM_42, zM_43, zM_44, zM_45, zM_46, zM_47, zM_48, zM_49, zM_50, zM_51, zM_52, zM_53, zM_54, zM_55, zM_56, zM_57, zM_58, zM_59, zM_60, zM_61, zM_62, zM_63, zM_64, zM_65, zM_66, zM_67, zM_68, zM_69, zM_70, zM_71, zM_72, zM_73, zM_74, zM_75, zM_76, zM_77, zM_78, zM_79, zM_80, zM_81, zM_82, zM_83, zM_84, zM_85, zM_86, zM_87, zM_88, zM_89, zM_90, zM_91, zM_92, zM_93, zM_94, zM_95, zM_96, zM_97, zM_98, zM_99, zM_100, zM_101, zM_102, zM_103, zM_104, zM_105, zM_106, zM_107, zM_108, zM_109, zM_110, zM_111, zM_112, zM_113, zM_114, zM_115, zM_116, zM_117, zM_118, zM_119]
    rw [e5, e4', e18, i2b_id q.2.2.1 q.2.2.2]
    repeat (first | refine J_andL (by first | omega | (constructor <;> omega)) ?_ | refine J_andR (by first | omega | (constructor <;> omega)) ?_ | refine J_posL (by first | omega | (constructor <;> omega)) ?_ | refine J_negL (by first | omega | (constructor <;> omega)) ?_ | refine J_posR (by first | omega | (constructor <;> omega)) ?_ | refine J_negR (by first | omega | (constructor <;> omega)) ?_)
    exact ih'
  · intro w1 P G
    have e5 : w1 65 e = w 65 e := G _ _ (by omega)
    refine J_impR (fun Q hq => blk (md := true) [2, 58, 76, 144, 203] 99 GM FM rfl k335 hq) ?_
    simp -implicitDefEqProofs only [r_iconst, r_bipush, r_sipush, r_ldc, r_ldc_w, r_lconst, r_ldc2_w, r_aconst_null, r_iload, r_iload_n, r_lload, r_lload_n, r_aload, r_aload_n, r_istore, r_istore_n, r_lstore, r_lstore_n, r_astore, r_astore_n, r_iinc, r_iadd, r_iaddW, r_isub, r_isubW, r_imul, r_imulW, r_ladd, r_laddW, r_lsub, r_lsubW, r_lmul, r_lmulW, r_iand, r_ior, r_ishl, r_ishr, r_iushr, r_land, r_lor, r_lshl, r_lshr, r_lushr, r_idiv, r_irem, r_ldiv, r_lrem, r_lcmp, r_ineg, r_i2l, r_l2i, r_i2b, r_i2s, r_i2c, r_dup, r_pop, r_dup_x1, r_dup_x2, r_dup2, r_dup2L, r_icmp_eq, r_icmp_ne, r_icmp_lt, r_icmp_ge, r_icmp_gt, r_icmp_le, r_if_eq, r_if_ne, r_if_lt, r_if_ge, r_if_gt, r_if_le, r_acmp_eq, r_acmp_ne, r_ifnull, r_ifnonnull, r_goto, r_nop, r_tsw, r_lsw, r_getfield, r_getfinal, r_putfield, r_getstaticL, r_getstaticR, r_iaload, r_baload, r_saload, r_laload, r_aaload, r_aaloadM, r_iastore, r_bastore, r_zastore, r_sastore, r_lastore, r_aastore, r_alen, r_new, r_newarray, r_anewarray, r_invV, r_invI, r_objI, r_invS, r_acp, r_ireturn, r_zreturn, r_lreturn, r_return, r_areturn, r_athrow, ↓e_pI, ↓e_pL, ↓e_pR, ↓e_lg0, ↓e_lg1, ↓e_tk0, ↓e_tkI0, ↓e_tkI1, ↓e_tkI2, ↓e_tkI3, ↓e_tkI4, ↓e_tkL, ↓e_tkR0_0, ↓e_tkR0_1, ↓e_tkR1_0, ↓e_tkR1_1, ↓e_tkR2_0, ↓e_tkR2_1, ↓e_tkR3_0, ↓e_tkR3_1, ↓e_tkR4_0, ↓e_tkR4_1, ↓e_tkR5_0, ↓e_tkR5_1, ↓e_tkR6_0, ↓e_tkR6_1, ↓e_tkR7_0, ↓e_tkR7_1, ↓e_tkR8_0, ↓e_tkR8_1, ↓e_tkR9_0, ↓e_tkR9_1, ↓e_tkR10_0, ↓e_tkR10_1, ↓e_tkR11_0, ↓e_tkR11_1, ↓e_tkR12_0, ↓e_tkR12_1, ↓e_tkR13_0, ↓e_tkR13_1, ↓e_tkR14_0, ↓e_tkR14_1, ↓e_tkR15_0, ↓e_tkR15_1, ↓e_tkR16_0, ↓e_tkR16_1, ↓e_tkR17_0, ↓e_tkR17_1, ↓e_tkR39_0, ↓e_tkR39_1, ↓e_tkR40_0, ↓e_tkR40_1, ↓e_tkR41_0, ↓e_tkR41_1, ↓e_tkR42_0, ↓e_tkR42_1, ↓e_tkR43_0, ↓e_tkR43_1, ↓e_tkR44_0, ↓e_tkR44_1, ↓e_tkR45_0, ↓e_tkR45_1, ↓e_tkR46_0, ↓e_tkR46_1, ↓e_tkR47_0, ↓e_tkR47_1, ↓e_tkR48_0, ↓e_tkR48_1, ↓e_pv0, ↓e_pv1, ↓e_pv2, ↓e_pv3, ↓e_pv5, ↓e_pvR, ↓e_tsw0, ↓e_tsw1, ↓e_lsw0, ↓e_lsw1, e_kq100, e_kq0, e_kq3, e_kq5, e_kqR0, e_kqR1, e_kqR2, e_kqR3, e_kqR4, e_kqR5, e_kqR6, e_kqR7, e_kqR8, e_kqR9, e_kqR10, e_kqR11, e_kqR12, e_kqR13, e_kqR14, e_kqR15, e_kqR16, e_kqR17, e_kqR39, e_kqR40, e_kqR41, e_kqR42, e_kqR43, e_kqR44, e_kqR45, e_kqR46, e_kqR47, e_kqR48, e_st0I, e_st0R, e_st0L, e_st1N, e_st1I, e_st1L, e_st1R, e_st2, e_wd0, e_wdI, e_wdL, e_wdR, e_c1I, e_c1R, e_gv0, e_gv1, e_gv2, e_gv3, e_gv4, e_gv5, e_gvR0, e_gvR1, e_gvR2, e_gvR3, e_gvR4, e_gvR5, e_gvR6, e_gvR7, e_gvR8, e_gvR9, e_gvR10, e_gvR11, e_gvR12, e_gvR13, e_gvR14, e_gvR15, e_gvR16, e_gvR17, e_gvR39, e_gvR40, e_gvR41, e_gvR42, e_gvR43, e_gvR44, e_gvR45, e_gvR46, e_gvR47, e_gvR48, e_kX0, e_kX1, e_kVv, e_kVx, e_kIv, e_kIx, e_kLv, e_kLx, e_kRv, e_kRx, e_thr, e_lk1, e_ic0, e_ic1, e_jm, st_ap, clr_ap, e_lceq, e_lclt, e_lcgt, nn, ↓reduceIte, Nat.reduceDiv, Nat.reduceMod, Nat.reduceMul, Nat.reduceAdd, Nat.reduceEqDiff, Nat.reduceLeDiff, Int.reduceNatCast, Int.cast_ofNat_Int, Int.reduceSub, Int.reduceMul, Int.reduceNeg, Int.reduceAdd, Int.reduceLE, Int.reduceLT, Int.reduceEq, Int.reduceNe, true_and, and_true, true_or, and_self, ne_eq, not_false_eq_true, Bool.false_eq_true, reduceCtorEq, rd_l1, rd_l2, rd_l3, rd_l4, rd_l5, rd_l6, rd_l7, rd_l8, rd_l9, SB, rd_ge, i2b_2, false_and, and_false, not_true_eq_false, l335_0, l335_2, l335_56, l335_58, l335_76, l335_107, l335_113, l335_120, l335_144, l335_195, l335_203, l335_233, s335_0, s335_2, s335_56, s335_58, s335_76, s335_107, s335_113, s335_120, s335_144, s335_195, s335_203, s335_233, zM_18, zM_19, zM_20, zM_21, zM_22, zM_23, zM_24, zM_25, zM_26, zM_27, zM_28, zM_29, zM_30, zM_31, zM_32, zM_33, zM_34, zM_35, zM_36, zM_37, zM_38, zM_39, zM_40, zM_41, zM_42, zM_43, zM_44, zM_45, zM_46, zM_47, zM_48, zM_49, zM_50, zM_51, zM_52, zM_53, zM_54, zM_55, zM_56, zM_57, zM_58, zM_59, zM_60, zM_61, zM_62, zM_63, zM_64, zM_65, zM_66, zM_67, zM_68, zM_69, zM_70, zM_71, zM_72, zM_73, zM_74, zM_75, zM_76, zM_77, zM_78, zM_79, zM_80, zM_81, zM_82, zM_83, zM_84, zM_85, zM_86, zM_87, zM_88, zM_89, zM_90, zM_91, zM_92, zM_93, zM_94, zM_95, zM_96, zM_97, zM_98, zM_99, zM_100, zM_101, zM_102, zM_103, zM_104, zM_105, zM_106, zM_107, zM_108, zM_109, zM_110, zM_111, zM_112, zM_113, zM_114, zM_115, zM_116, zM_117, zM_118, zM_119]
    rw [e5]
    repeat (first | refine J_andL (by first | omega | (constructor <;> omega)) ?_ | refine J_andR (by first | omega | (constructor <;> omega)) ?_ | refine J_posL (by first | omega | (constructor <;> omega)) ?_ | refine J_negL (by first | omega | (constructor <;> omega)) ?_ | refine J_posR (by first | omega | (constructor <;> omega)) ?_ | refine J_negR (by first | omega | (constructor <;> omega)) ?_)
    exact fin w1 P G
/-- one entry is given: 142@49, 335@58 -/
theorem p_gvs {β0 β : Int → Int} {D : Int → Prop} {h0 w0 : Mem} {p F E : Int} {fl κ μ sf cf : Int → Int} {f k e : Int} {o4 o5 : Option V} (VV : GVI β0 β D h0 w0 p F fl f k e κ μ h w) (R : RDR r s b h w) (N : ENT E s b h w) (H : HDS F s b sf h w) (M : ENF F sf cf w) (cfe : ∀ f, cf f = e2 b (sf f + 4)) (pf : 0 ≤ p ∧ 0 ≤ f ∧ f < F ∧ p + F ≤ 4) (e0 : e < E) (ek : e = esn cf f.toNat + k) (es0 : 0 ≤ esn cf f.toNat) (k0 : 0 ≤ k ∧ k < cf f)
    (fin : ∀ (β' : Int → Int) (D' : Int → Prop) (κ' μ' : Int → Int) (h1 w1 : Mem) (o4 o5 : Option V), GVI β0 β' D' h0 w0 p F fl f (k + 1) (e + 1) κ' μ' h1 w1 → Fz gvC h h1 → Fz gvM w w1 → J2 (fun Q => T_at gC 142 49 [some (vR 19 360), some (vI p), some (vI (e + 1)), some (vI f), some (vR 6 (252 + 6 * (p + f))), some (vI (k + 1))] [] n h1 (KL Q)) (fun Q => T_at gM 335 58 [some (vR 33 17), some (vI r), some (vI p), some (vI (e + 1)), o4, o5] [] m w1 (KM Q)) Φ) :
    J2 (fun Q => T_at gC 142 49 [some (vR 19 360), some (vI p), some (vI e), some (vI f), some (vR 6 (252 + 6 * (p + f))), some (vI k)] [] n h (KL Q)) (fun Q => T_at gM 335 58 [some (vR 33 17), some (vI r), some (vI p), some (vI e), o4, o5] [] m w (KM Q)) Φ := by
  obtain ⟨C, Q1, Q2, Q3, Q4⟩ := id VV
  obtain ⟨t1, t2, t3, t4, t5⟩ := id N
  have hf := H.2.2.2.1 f pf.2.1 pf.2.2.1
  have hd : HDF s b sf f := hf.1
  unfold HDF at hd
  rw [← cfe] at hd
  have e00 : 0 ≤ e := by omega
  obtain ⟨b1, b2, ⟨b3, b4, b5⟩, b6, b7, b8⟩ := t4 e e00 e0
  have en : w 62 e = f := by rw [ek]; exact (M f k pf.2.1 pf.2.2.1 k0.1 k0.2).1
  have inc : ∀ i, 0 ≤ i → i < k → w 63 (e - k + i) < w 63 e := fun i x y => by
    have n1 := (M f i pf.2.1 pf.2.2.1 x (by omega)).1
    refine (t5 (e - k + i) e (by omega) (by omega) e0).2 ?_
    rw [show e - k + i = esn cf f.toNat + i by omega, n1, en]
  have h362 : h 362 f = cf f := by rw [cfe]; exact hf.2.2.2
  -- the model's cell of the entry
  have G6 : Fz gvM w (st w 66 e (-1)) := Fz_st Fz_0 (Or.inr rfl)
  have N6 : ENT E s b h (st w 66 e (-1)) := ENT_t N (fun _ _ _ => rfl) (fun a j g => st_na (by omega))
  have R6 : RDR r s b h (st w 66 e (-1)) := RDR_t R (fun _ _ _ => rfl) (fun a j g => st_na (by omega))
  refine J_impL (fun Q hq => blk (md := true) [4, 49] 99 GC FC rfl k142 hq) ?_
  refine J_impR (fun Q hq => blk (md := true) [2, 58, 76, 144, 203] 99 GM FM rfl k335 hq) ?_
  simp -implicitDefEqProofs only [r_iconst, r_bipush, r_sipush, r_ldc, r_ldc_w, r_lconst, r_ldc2_w, r_aconst_null, r_iload, r_iload_n, r_lload, r_lload_n, r_aload, r_aload_n, r_istore, r_istore_n, r_lstore, r_lstore_n, r_astore, r_astore_n, r_iinc, r_iadd, r_iaddW, r_isub, r_isubW, r_imul, r_imulW, r_ladd, r_laddW, r_lsub, r_lsubW, r_lmul, r_lmulW, r_iand, r_ior, r_ishl, r_ishr, r_iushr, r_land, r_lor, r_lshl, r_lshr, r_lushr, r_idiv, r_irem, r_ldiv, r_lrem, r_lcmp, r_ineg, r_i2l, r_l2i, r_i2b, r_i2s, r_i2c, r_dup, r_pop, r_dup_x1, r_dup_x2, r_dup2, r_dup2L, r_icmp_eq, r_icmp_ne, r_icmp_lt, r_icmp_ge, r_icmp_gt, r_icmp_le, r_if_eq, r_if_ne, r_if_lt, r_if_ge, r_if_gt, r_if_le, r_acmp_eq, r_acmp_ne, r_ifnull, r_ifnonnull, r_goto, r_nop, r_tsw, r_lsw, r_getfield, r_getfinal, r_putfield, r_getstaticL, r_getstaticR, r_iaload, r_baload, r_saload, r_laload, r_aaload, r_aaloadM, r_iastore, r_bastore, r_zastore, r_sastore, r_lastore, r_aastore, r_alen, r_new, r_newarray, r_anewarray, r_invV, r_invI, r_objI, r_invS, r_acp, r_ireturn, r_zreturn, r_lreturn, r_return, r_areturn, r_athrow, ↓e_pI, ↓e_pL, ↓e_pR, ↓e_lg0, ↓e_lg1, ↓e_tk0, ↓e_tkI0, ↓e_tkI1, ↓e_tkI2, ↓e_tkI3, ↓e_tkI4, ↓e_tkL, ↓e_tkR0_0, ↓e_tkR0_1, ↓e_tkR1_0, ↓e_tkR1_1, ↓e_tkR2_0, ↓e_tkR2_1, ↓e_tkR3_0, ↓e_tkR3_1, ↓e_tkR4_0, ↓e_tkR4_1, ↓e_tkR5_0, ↓e_tkR5_1, ↓e_tkR6_0, ↓e_tkR6_1, ↓e_tkR7_0, ↓e_tkR7_1, ↓e_tkR8_0, ↓e_tkR8_1, ↓e_tkR9_0, ↓e_tkR9_1, ↓e_tkR10_0, ↓e_tkR10_1, ↓e_tkR11_0, ↓e_tkR11_1, ↓e_tkR12_0, ↓e_tkR12_1, ↓e_tkR13_0, ↓e_tkR13_1, ↓e_tkR14_0, ↓e_tkR14_1, ↓e_tkR15_0, ↓e_tkR15_1, ↓e_tkR16_0, ↓e_tkR16_1, ↓e_tkR17_0, ↓e_tkR17_1, ↓e_tkR39_0, ↓e_tkR39_1, ↓e_tkR40_0, ↓e_tkR40_1, ↓e_tkR41_0, ↓e_tkR41_1, ↓e_tkR42_0, ↓e_tkR42_1, ↓e_tkR43_0, ↓e_tkR43_1, ↓e_tkR44_0, ↓e_tkR44_1, ↓e_tkR45_0, ↓e_tkR45_1, ↓e_tkR46_0, ↓e_tkR46_1, ↓e_tkR47_0, ↓e_tkR47_1, ↓e_tkR48_0, ↓e_tkR48_1, ↓e_pv0, ↓e_pv1, ↓e_pv2, ↓e_pv3, ↓e_pv5, ↓e_pvR, ↓e_tsw0, ↓e_tsw1, ↓e_lsw0, ↓e_lsw1, e_kq100, e_kq0, e_kq3, e_kq5, e_kqR0, e_kqR1, e_kqR2, e_kqR3, e_kqR4, e_kqR5, e_kqR6, e_kqR7, e_kqR8, e_kqR9, e_kqR10, e_kqR11, e_kqR12, e_kqR13, e_kqR14, e_kqR15, e_kqR16, e_kqR17, e_kqR39, e_kqR40, e_kqR41, e_kqR42, e_kqR43, e_kqR44, e_kqR45, e_kqR46, e_kqR47, e_kqR48, e_st0I, e_st0R, e_st0L, e_st1N, e_st1I, e_st1L, e_st1R, e_st2, e_wd0, e_wdI, e_wdL, e_wdR, e_c1I, e_c1R, e_gv0, e_gv1, e_gv2, e_gv3, e_gv4, e_gv5, e_gvR0, e_gvR1, e_gvR2, e_gvR3, e_gvR4, e_gvR5, e_gvR6, e_gvR7, e_gvR8, e_gvR9, e_gvR10, e_gvR11, e_gvR12, e_gvR13, e_gvR14, e_gvR15, e_gvR16, e_gvR17, e_gvR39, e_gvR40, e_gvR41, e_gvR42, e_gvR43, e_gvR44, e_gvR45, e_gvR46, e_gvR47, e_gvR48, e_kX0, e_kX1, e_kVv, e_kVx, e_kIv, e_kIx, e_kLv, e_kLx, e_kRv, e_kRx, e_thr, e_lk1, e_ic0, e_ic1, e_jm, st_ap, clr_ap, e_lceq, e_lclt, e_lcgt, nn, ↓reduceIte, Nat.reduceDiv, Nat.reduceMod, Nat.reduceMul, Nat.reduceAdd, Nat.reduceEqDiff, Nat.reduceLeDiff, Int.reduceNatCast, Int.cast_ofNat_Int, Int.reduceSub, Int.reduceMul, Int.reduceNeg, Int.reduceAdd, Int.reduceLE, Int.reduceLT, Int.reduceEq, Int.reduceNe, true_and, and_true, true_or, and_self, ne_eq, not_false_eq_true, Bool.false_eq_true, reduceCtorEq, rd_l1, rd_l2, rd_l3, rd_l4, rd_l5, rd_l6, rd_l7, rd_l8, rd_l9, SB, rd_ge, i2b_2, false_and, and_false, not_true_eq_false, l142_0, l142_4, l142_49, l142_97, l142_103, s142_0, s142_4, s142_49, s142_97, s142_103, l335_0, l335_2, l335_56, l335_58, l335_76, l335_107, l335_113, l335_120, l335_144, l335_195, l335_203, l335_233, s335_0, s335_2, s335_56, s335_58, s335_76, s335_107, s335_113, s335_120, s335_144, s335_195, s335_203, s335_233, zC_18, zC_20, zC_21, zC_22, zC_23, zC_25, zC_26, zC_253, zC_254, zC_256, zC_257, zC_259, zC_260, zC_262, zC_263, zC_265, zC_266, zC_268, zC_269, zC_271, zC_272, zC_274, zC_275, zC_278, zC_279, zC_280, zC_281, zC_282, zC_284, zC_285, zC_287, zC_288, zC_290, zC_291, zC_293, zC_294, zC_296, zC_297, zC_299, zC_300, zC_302, zC_303, zC_304, zC_305, zC_306, zC_307, zC_308, zC_309, zC_310, zC_311, zC_312, zC_315, zC_316, zC_317, zC_319, zC_320, zC_321, zC_323, zC_324, zC_325, zC_327, zC_328, zC_329, zC_331, zC_332, zC_333, zC_335, zC_336, zC_337, zC_339, zC_340, zC_341, zC_343, zC_344, zC_345, zC_347, zC_348, zC_349, zC_350, zC_351, zC_352, zC_353, zC_354, zC_355, zC_356, zC_357, zC_358, zC_359, zC_361, zC_362, zC_363, zC_364, zC_367, zC_368, zC_369, zC_370, zC_371, zC_372, zC_373, zC_374, zC_375, zC_376, zC_378, zC_380, zC_381, zC_383, zC_384, zC_386, zC_387, zC_389, zC_390, zC_391, zC_392, zC_393, zC_394, zC_395, zC_396, zC_397, zC_398, zC_400, zC_402, zC_403, zC_405, zC_407, zC_409, zC_411, zC_413, zC_415, zC_417, zC_420, zC_421, zC_422, zC_423, zC_424, zC_425, zC_427, zC_429, zC_431, zC_433, zC_436, zC_437, zC_438, zC_439, zC_440, zC_441, zC_442, zC_443, zC_444, zC_445, zC_447, zC_448, zC_450, zC_451, zC_453, zC_454, zC_455, zC_456, zC_457, zC_458, zC_460, zC_461, zC_462, zC_463, zC_464, zC_465, zC_466, zC_467, zC_468, zC_469, zC_471, zC_473, zC_474, zC_476, zC_477, zC_478, zC_479, zC_480, zC_481, zC_482, zC_483, zC_484, zC_485, zC_487, zC_489, zC_490, zC_491, zC_493, zC_495, zC_497, zC_499, zM_18, zM_19, zM_20, zM_21, zM_22, zM_23, zM_24, zM_25, zM_26, zM_27, zM_28, zM_29, zM_30, zM_31, zM_32, zM_33, zM_34, zM_35, zM_36, zM_37, zM_38, zM_39, zM_40, zM_41, zM_42, zM_43, zM_44, zM_45, zM_46, zM_47, zM_48, zM_49, zM_50, zM_51, zM_52, zM_53, zM_54, zM_55, zM_56, zM_57, zM_58, zM_59, zM_60, zM_61, zM_62, zM_63, zM_64, zM_65, zM_66, zM_67, zM_68, zM_69, zM_70, zM_71, zM_72, zM_73, zM_74, zM_75, zM_76, zM_77, zM_78, zM_79, zM_80, zM_81, zM_82, zM_83, zM_84, zM_85, zM_86, zM_87, zM_88, zM_89, zM_90, zM_91, zM_92, zM_93, zM_94, zM_95, zM_96, zM_97, zM_98, zM_99, zM_100, zM_101, zM_102, zM_103, zM_104, zM_105, zM_106, zM_107, zM_108, zM_109, zM_110, zM_111, zM_112, zM_113, zM_114, zM_115, zM_116, zM_117, zM_118, zM_119]
  rw [h362, t2]
  repeat (first | refine J_andL (by first | omega | (constructor <;> omega)) ?_ | refine J_andR (by first | omega | (constructor <;> omega)) ?_ | refine J_posL (by first | omega | (constructor <;> omega)) ?_ | refine J_negL (by first | omega | (constructor <;> omega)) ?_ | refine J_posR (by first | omega | (constructor <;> omega)) ?_ | refine J_negR (by first | omega | (constructor <;> omega)) ?_)
  refine m_look (v := μ) (p5 := o5) N6 e00 e0 (fun d x y => by rw [st_nj (by omega)]; exact (Q1 d x y).2.2.1) (by rw [st_eq]) ?_
  intro y hy
  rw [st_st]
  have sse : ∀ d, sam (st w 66 e (-1)) d e ↔ sam w d e := fun d => by
    unfold sam
    rw [st_na (by omega), st_na (by omega), st_na (by omega), st_na (by omega), st_na (by omega), st_na (by omega)]
  have cw : ∀ a j, a ≠ 66 → (st w 66 e y) a j = w a j := fun a j g => st_na g
  have bdk := C.2.2.1.1
  rcases sam_ex w e00 with ⟨d, d0, d1, d2, d3⟩ | nns
  · -- the same was there
    rcases hy with ⟨hn, _⟩ | ⟨d', x0, x1, x2, x3⟩
    · exact absurd ((sse d).2 d2) (hn d d0 d1)
    have x2 := (sse d').1 x2
    obtain ⟨⟨q1, q2⟩, q3, q4, q, i, q5, q6, q7, q8, q9⟩ := Q1 d d0 d1
    have ym : y = β (κ d) := by
      rw [x3, q2]
      rcases Int.lt_trichotomy d d' with g | g | g
      · exact (Q2 d d' d0 g x1 (sam_tr d2 (sam_s x2))).symm
      · rw [g]
      · exact Q2 d' d x0 g d1 (sam_tr x2 (sam_s d2))
    have kr := (bdk (κ d) q1).1
    have br := (bdk (κ d) q1).2.1
    refine J_LR (c_bodyA (n := n) R N d0 d1 e0 d2 d3) ?_
    rw [q3]
    repeat (first | refine J_andL (by first | omega | (constructor <;> omega)) ?_ | refine J_andR (by first | omega | (constructor <;> omega)) ?_ | refine J_posL (by first | omega | (constructor <;> omega)) ?_ | refine J_negL (by first | omega | (constructor <;> omega)) ?_ | refine J_posR (by first | omega | (constructor <;> omega)) ?_ | refine J_negR (by first | omega | (constructor <;> omega)) ?_)
    refine J_impR (fun Q hq => blk (md := true) [2, 58, 76, 144, 203] 99 GM FM rfl k335 hq) ?_
    simp -implicitDefEqProofs only [r_iconst, r_bipush, r_sipush, r_ldc, r_ldc_w, r_lconst, r_ldc2_w, r_aconst_null, r_iload, r_iload_n, r_lload, r_lload_n, r_aload, r_aload_n, r_istore, r_istore_n, r_lstore, r_lstore_n, r_astore, r_astore_n, r_iinc, r_iadd, r_iaddW, r_isub, r_isubW, r_imul, r_imulW, r_ladd, r_laddW, r_lsub, r_lsubW, r_lmul, r_lmulW, r_iand, r_ior, r_ishl, r_ishr, r_iushr, r_land, r_lor, r_lshl, r_lshr, r_lushr, r_idiv, r_irem, r_ldiv, r_lrem, r_lcmp, r_ineg, r_i2l, r_l2i, r_i2b, r_i2s, r_i2c, r_dup, r_pop, r_dup_x1, r_dup_x2, r_dup2, r_dup2L, r_icmp_eq, r_icmp_ne, r_icmp_lt, r_icmp_ge, r_icmp_gt, r_icmp_le, r_if_eq, r_if_ne, r_if_lt, r_if_ge, r_if_gt, r_if_le, r_acmp_eq, r_acmp_ne, r_ifnull, r_ifnonnull, r_goto, r_nop, r_tsw, r_lsw, r_getfield, r_getfinal, r_putfield, r_getstaticL, r_getstaticR, r_iaload, r_baload, r_saload, r_laload, r_aaload, r_aaloadM, r_iastore, r_bastore, r_zastore, r_sastore, r_lastore, r_aastore, r_alen, r_new, r_newarray, r_anewarray, r_invV, r_invI, r_objI, r_invS, r_acp, r_ireturn, r_zreturn, r_lreturn, r_return, r_areturn, r_athrow, ↓e_pI, ↓e_pL, ↓e_pR, ↓e_lg0, ↓e_lg1, ↓e_tk0, ↓e_tkI0, ↓e_tkI1, ↓e_tkI2, ↓e_tkI3, ↓e_tkI4, ↓e_tkL, ↓e_tkR0_0, ↓e_tkR0_1, ↓e_tkR1_0, ↓e_tkR1_1, ↓e_tkR2_0, ↓e_tkR2_1, ↓e_tkR3_0, ↓e_tkR3_1, ↓e_tkR4_0, ↓e_tkR4_1, ↓e_tkR5_0, ↓e_tkR5_1, ↓e_tkR6_0, ↓e_tkR6_1, ↓e_tkR7_0, ↓e_tkR7_1, ↓e_tkR8_0, ↓e_tkR8_1, ↓e_tkR9_0, ↓e_tkR9_1, ↓e_tkR10_0, ↓e_tkR10_1, ↓e_tkR11_0, ↓e_tkR11_1, ↓e_tkR12_0, ↓e_tkR12_1, ↓e_tkR13_0, ↓e_tkR13_1, ↓e_tkR14_0, ↓e_tkR14_1, ↓e_tkR15_0, ↓e_tkR15_1, ↓e_tkR16_0, ↓e_tkR16_1, ↓e_tkR17_0, ↓e_tkR17_1, ↓e_tkR39_0, ↓e_tkR39_1, ↓e_tkR40_0, ↓e_tkR40_1, ↓e_tkR41_0, ↓e_tkR41_1, ↓e_tkR42_0, ↓e_tkR42_1, ↓e_tkR43_0, ↓e_tkR43_1, ↓e_tkR44_0, ↓e_tkR44_1, ↓e_tkR45_0, ↓e_tkR45_1, ↓e_tkR46_0, ↓e_tkR46_1, ↓e_tkR47_0, ↓e_tkR47_1, ↓e_tkR48_0, ↓e_tkR48_1, ↓e_pv0, ↓e_pv1, ↓e_pv2, ↓e_pv3, ↓e_pv5, ↓e_pvR, ↓e_tsw0, ↓e_tsw1, ↓e_lsw0, ↓e_lsw1, e_kq100, e_kq0, e_kq3, e_kq5, e_kqR0, e_kqR1, e_kqR2, e_kqR3, e_kqR4, e_kqR5, e_kqR6, e_kqR7, e_kqR8, e_kqR9, e_kqR10, e_kqR11, e_kqR12, e_kqR13, e_kqR14, e_kqR15, e_kqR16, e_kqR17, e_kqR39, e_kqR40, e_kqR41, e_kqR42, e_kqR43, e_kqR44, e_kqR45, e_kqR46, e_kqR47, e_kqR48, e_st0I, e_st0R, e_st0L, e_st1N, e_st1I, e_st1L, e_st1R, e_st2, e_wd0, e_wdI, e_wdL, e_wdR, e_c1I, e_c1R, e_gv0, e_gv1, e_gv2, e_gv3, e_gv4, e_gv5, e_gvR0, e_gvR1, e_gvR2, e_gvR3, e_gvR4, e_gvR5, e_gvR6, e_gvR7, e_gvR8, e_gvR9, e_gvR10, e_gvR11, e_gvR12, e_gvR13, e_gvR14, e_gvR15, e_gvR16, e_gvR17, e_gvR39, e_gvR40, e_gvR41, e_gvR42, e_gvR43, e_gvR44, e_gvR45, e_gvR46, e_gvR47, e_gvR48, e_kX0, e_kX1, e_kVv, e_kVx, e_kIv, e_kIx, e_kLv, e_kLx, e_kRv, e_kRx, e_thr, e_lk1, e_ic0, e_ic1, e_jm, st_ap, clr_ap, e_lceq, e_lclt, e_lcgt, nn, ↓reduceIte, Nat.reduceDiv, Nat.reduceMod, Nat.reduceMul, Nat.reduceAdd, Nat.reduceEqDiff, Nat.reduceLeDiff, Int.reduceNatCast, Int.cast_ofNat_Int, Int.reduceSub, Int.reduceMul, Int.reduceNeg, Int.reduceAdd, Int.reduceLE, Int.reduceLT, Int.reduceEq, Int.reduceNe, true_and, and_true, true_or, and_self, ne_eq, not_false_eq_true, Bool.false_eq_true, reduceCtorEq, rd_l1, rd_l2, rd_l3, rd_l4, rd_l5, rd_l6, rd_l7, rd_l8, rd_l9, SB, rd_ge, i2b_2, false_and, and_false, not_true_eq_false, l335_0, l335_2, l335_56, l335_58, l335_76, l335_107, l335_113, l335_120, l335_144, l335_195, l335_203, l335_233, s335_0, s335_2, s335_56, s335_58, s335_76, s335_107, s335_113, s335_120, s335_144, s335_195, s335_203, s335_233, zM_18, zM_19, zM_20, zM_21, zM_22, zM_23, zM_24, zM_25, zM_26, zM_27, zM_28, zM_29, zM_30, zM_31, zM_32, zM_33, zM_34, zM_35, zM_36, zM_37, zM_38, zM_39, zM_40, zM_41, zM_42, zM_43, zM_44, zM_45, zM_46, zM_47, zM_48, zM_49, zM_50, zM_51, zM_52, zM_53, zM_54, zM_55, zM_56, zM_57, zM_58, zM_59, zM_60, zM_61, zM_62, zM_63, zM_64, zM_65, zM_66, zM_67, zM_68, zM_69, zM_70, zM_71, zM_72, zM_73, zM_74, zM_75, zM_76, zM_77, zM_78, zM_79, zM_80, zM_81, zM_82, zM_83, zM_84, zM_85, zM_86, zM_87, zM_88, zM_89, zM_90, zM_91, zM_92, zM_93, zM_94, zM_95, zM_96, zM_97, zM_98, zM_99, zM_100, zM_101, zM_102, zM_103, zM_104, zM_105, zM_106, zM_107, zM_108, zM_109, zM_110, zM_111, zM_112, zM_113, zM_114, zM_115, zM_116, zM_117, zM_118, zM_119]
    have yp : 0 ≤ y := by rw [ym]; omega
    refine J_negR (by omega) (J_andR (by omega) (J_andR (by omega) (J_negR (by omega) ?_)))
    have C' : CHG β0 β D (e + 1) (e + 1) h0 w0 (bgh p (f + 1) F fl h) (st w 66 e y) := by
      have c1 := cg_c C (show e ≤ e + 1 by omega) (show e ≤ e + 1 by omega)
      obtain ⟨R, K, Bd, FTs, ⟨l1, l2, l3, l4, l5⟩, P, O, tg⟩ := c1
      have ce : ∀ a j, a ≠ 66 → (st w 66 e y) a j = w a j := cw
      refine ⟨R, K, ⟨fun k' q => ?_, Bd.2⟩, fun q x y' => FNT_t (FTs q x y') (fun _ _ _ => rfl) (fun _ _ _ => ⟨rfl, rfl⟩) ⟨ce _ _ (by omega), ce _ _ (by omega), ce _ _ (by omega)⟩ (fun i _ _ => ⟨ce _ _ (by omega), ce _ _ (by omega)⟩), ⟨fun k' q => by rw [ce _ _ (by omega)]; exact l1 k' q, l2, fun x a b => by rw [ce _ _ (by omega)]; exact l3 x a b, l4, ?_⟩, ⟨P.1, fun q a y' => by rw [ce _ _ (by omega), ce _ _ (by omega), ce _ _ (by omega)]; exact P.2.1 q a y', fun j a y' => by rw [ce _ _ (by omega), ce _ _ (by omega)]; exact P.2.2 j a y'⟩, fun k' q => ?_, TG_t tg (fun p a b => ⟨ce _ _ (by omega), ce _ _ (by omega)⟩) (fun j a b => ⟨ce _ _ (by omega), ce _ _ (by omega)⟩)⟩
      · obtain ⟨y1, y2, y3, y4, y5⟩ := Bd.1 k' q
        refine ⟨y1, y2, y3, by rw [ce _ _ (by omega)]; exact y4, fun i i0 i1 => ?_⟩
        rw [ce _ _ (by omega)]; exact y5 i i0 i1
      · rw [smi_c (g := w 54) (fun k a b => ce _ _ (by omega))]; exact l5
      · obtain ⟨o1, o2, o3, o4, o5⟩ := O k' q
        exact ⟨o1, o2, o3, by rw [ce _ _ (by omega)]; exact o4, fun i i0 i1 => by rw [ce _ _ (by omega)]; exact o5 i i0 i1⟩
    have tgw := C.2.2.2.2.2.2.2
    refine p_gvt (κ := κ) (μ := μ) (kk := κ d) (RDR_t R (fun _ _ _ => rfl) (fun a j g => cw a j (by omega))) (ENT_t N (fun _ _ _ => rfl) (fun a j g => cw a j (by omega))) pf ⟨e00, e0⟩ (by omega) (by rw [cw _ _ (by omega)]; exact en) (fun i x y' => by rw [cw _ _ (by omega), cw _ _ (by omega)]; exact inc i x y') C' (fun d x y' => ?_) (fun d d' x y' z sa => ?_) ?_ (fun i x y' => by rw [cw _ _ (by omega), cw _ _ (by omega)]; exact Q4 i x y') q1 kr (by rw [st_eq]; exact ym) (fun q' i' u1 u2 u3 u4 => ?_) (fun d' u1 u2 u3 => ?_) ?_
    · obtain ⟨a1, a2, a3, a4⟩ := Q1 d x y'
      rw [st_nj (by omega)]
      refine ⟨a1, a2, a3, ?_⟩
      obtain ⟨q, i, i1, i2, i3, i4, i5⟩ := a4
      refine ⟨q, i, i1, ?_, ?_, ?_, ?_⟩
      · rw [cw 55 _ (by omega)]; exact i2
      · rw [cw 57 _ (by omega)]; exact i3
      · rw [cw 59 _ (by omega)]; exact i4
      · rw [cw 58 _ (by omega), cw 63 _ (by omega)]; exact i5
    · unfold sam at sa
      rw [cw 63 _ (by omega), cw 63 _ (by omega), cw 64 _ (by omega), cw 64 _ (by omega), cw 65 _ (by omega), cw 65 _ (by omega)] at sa
      exact Q2 d d' x y' z sa
    · rw [cw 55 _ (by omega), cw 56 _ (by omega), cw 57 _ (by omega)]; exact Q3
    · rw [cw 55 _ (by omega)] at u2
      rw [cw 57 _ (by omega)] at u3
      rw [cw 59 _ (by omega)] at u4
      rw [cw 58 _ (by omega), cw 63 _ (by omega)]
      have := tgw q' q i' i u1 q5 u2 q6 u3 q7 (by rw [u4, q8, q2])
      rw [this, q9]; exact d2.1
    · unfold sam at u3
      rw [cw 63 _ (by omega), cw 63 _ (by omega), cw 64 _ (by omega), cw 64 _ (by omega), cw 65 _ (by omega), cw 65 _ (by omega)] at u3
      have u3 : sam w d' e := u3
      rw [q2]
      rcases Int.lt_trichotomy d d' with g | g | g
      · exact (Q2 d d' d0 g u2 (sam_tr d2 (sam_s u3))).symm
      · rw [g]
      · exact Q2 d' d u1 g d1 (sam_tr u3 (sam_s d2))
    · intro h1 w1 V1 F1 G1
      exact fin β D _ _ h1 w1 _ _ V1 F1 (Fz_tr (Fz_st Fz_0 (Or.inr rfl)) G1)
  · -- a fresh body
    have yn : y = -1 := by
      rcases hy with ⟨_, g⟩ | ⟨d', x0, x1, x2, x3⟩
      · exact g
      · exact absurd ((sse d').1 x2) (nns d' x0 x1)
    rw [yn]
    rw [yn] at cw
    have bgn : ∀ a j, a ≤ 251 → bgh p (f + 1) F fl h a j = h a j := fun a j g => bg_n (by omega) (by omega)
    obtain ⟨RS, K, Bd, FTs, ⟨l1, l2, l3, l4, l5⟩, P, O, tg⟩ := id C
    have smE : smi (fun k => bgh p (f + 1) F fl h (28 + 2 * k) 3) 112 = smi (fun k => h (28 + 2 * k) 3) 112 := smi_c (fun k a c => bgn _ _ (by omega))
    obtain ⟨kk, h1, kk0, kb, evB, v3, v1, vb, FB⟩ := c_bodyB (n := n) R N e00 e0 nns ⟨fun k a c => by rw [← bgn _ _ (by omega)]; exact K.1 k a c, fun q a c => by rw [← bgn _ _ (by omega)]; exact K.2.1 q a c, fun q a c => by rw [← bgn _ _ (by omega)]; exact K.2.2 q a c⟩ (fun k a c => by have := l2 k a c; rw [bgn _ _ (by omega)] at this; exact this) (by omega)
    have nD : ¬ D kk := fun g => by have := (l1 kk g).1; rw [bgn _ _ (by omega)] at this; omega
    refine J_LR evB ?_
    repeat (first | refine J_andL (by first | omega | (constructor <;> omega)) ?_ | refine J_andR (by first | omega | (constructor <;> omega)) ?_ | refine J_posL (by first | omega | (constructor <;> omega)) ?_ | refine J_negL (by first | omega | (constructor <;> omega)) ?_ | refine J_posR (by first | omega | (constructor <;> omega)) ?_ | refine J_negR (by first | omega | (constructor <;> omega)) ?_)
    refine J_impR (fun Q hq => blk (md := true) [2, 58, 76, 144, 203] 99 GM FM rfl k335 hq) ?_
    simp -implicitDefEqProofs only [r_iconst, r_bipush, r_sipush, r_ldc, r_ldc_w, r_lconst, r_ldc2_w, r_aconst_null, r_iload, r_iload_n, r_lload, r_lload_n, r_aload, r_aload_n, r_istore, r_istore_n, r_lstore, r_lstore_n, r_astore, r_astore_n, r_iinc, r_iadd, r_iaddW, r_isub, r_isubW, r_imul, r_imulW, r_ladd, r_laddW, r_lsub, r_lsubW, r_lmul, r_lmulW, r_iand, r_ior, r_ishl, r_ishr, r_iushr, r_land, r_lor, r_lshl, r_lshr, r_lushr, r_idiv, r_irem, r_ldiv, r_lrem, r_lcmp, r_ineg, r_i2l, r_l2i, r_i2b, r_i2s, r_i2c, r_dup, r_pop, r_dup_x1, r_dup_x2, r_dup2, r_dup2L, r_icmp_eq, r_icmp_ne, r_icmp_lt, r_icmp_ge, r_icmp_gt, r_icmp_le, r_if_eq, r_if_ne, r_if_lt, r_if_ge, r_if_gt, r_if_le, r_acmp_eq, r_acmp_ne, r_ifnull, r_ifnonnull, r_goto, r_nop, r_tsw, r_lsw, r_getfield, r_getfinal, r_putfield, r_getstaticL, r_getstaticR, r_iaload, r_baload, r_saload, r_laload, r_aaload, r_aaloadM, r_iastore, r_bastore, r_zastore, r_sastore, r_lastore, r_aastore, r_alen, r_new, r_newarray, r_anewarray, r_invV, r_invI, r_objI, r_invS, r_acp, r_ireturn, r_zreturn, r_lreturn, r_return, r_areturn, r_athrow, ↓e_pI, ↓e_pL, ↓e_pR, ↓e_lg0, ↓e_lg1, ↓e_tk0, ↓e_tkI0, ↓e_tkI1, ↓e_tkI2, ↓e_tkI3, ↓e_tkI4, ↓e_tkL, ↓e_tkR0_0, ↓e_tkR0_1, ↓e_tkR1_0, ↓e_tkR1_1, ↓e_tkR2_0, ↓e_tkR2_1, ↓e_tkR3_0, ↓e_tkR3_1, ↓e_tkR4_0, ↓e_tkR4_1, ↓e_tkR5_0, ↓e_tkR5_1, ↓e_tkR6_0, ↓e_tkR6_1, ↓e_tkR7_0, ↓e_tkR7_1, ↓e_tkR8_0, ↓e_tkR8_1, ↓e_tkR9_0, ↓e_tkR9_1, ↓e_tkR10_0, ↓e_tkR10_1, ↓e_tkR11_0, ↓e_tkR11_1, ↓e_tkR12_0, ↓e_tkR12_1, ↓e_tkR13_0, ↓e_tkR13_1, ↓e_tkR14_0, ↓e_tkR14_1, ↓e_tkR15_0, ↓e_tkR15_1, ↓e_tkR16_0, ↓e_tkR16_1, ↓e_tkR17_0, ↓e_tkR17_1, ↓e_tkR39_0, ↓e_tkR39_1, ↓e_tkR40_0, ↓e_tkR40_1, ↓e_tkR41_0, ↓e_tkR41_1, ↓e_tkR42_0, ↓e_tkR42_1, ↓e_tkR43_0, ↓e_tkR43_1, ↓e_tkR44_0, ↓e_tkR44_1, ↓e_tkR45_0, ↓e_tkR45_1, ↓e_tkR46_0, ↓e_tkR46_1, ↓e_tkR47_0, ↓e_tkR47_1, ↓e_tkR48_0, ↓e_tkR48_1, ↓e_pv0, ↓e_pv1, ↓e_pv2, ↓e_pv3, ↓e_pv5, ↓e_pvR, ↓e_tsw0, ↓e_tsw1, ↓e_lsw0, ↓e_lsw1, e_kq100, e_kq0, e_kq3, e_kq5, e_kqR0, e_kqR1, e_kqR2, e_kqR3, e_kqR4, e_kqR5, e_kqR6, e_kqR7, e_kqR8, e_kqR9, e_kqR10, e_kqR11, e_kqR12, e_kqR13, e_kqR14, e_kqR15, e_kqR16, e_kqR17, e_kqR39, e_kqR40, e_kqR41, e_kqR42, e_kqR43, e_kqR44, e_kqR45, e_kqR46, e_kqR47, e_kqR48, e_st0I, e_st0R, e_st0L, e_st1N, e_st1I, e_st1L, e_st1R, e_st2, e_wd0, e_wdI, e_wdL, e_wdR, e_c1I, e_c1R, e_gv0, e_gv1, e_gv2, e_gv3, e_gv4, e_gv5, e_gvR0, e_gvR1, e_gvR2, e_gvR3, e_gvR4, e_gvR5, e_gvR6, e_gvR7, e_gvR8, e_gvR9, e_gvR10, e_gvR11, e_gvR12, e_gvR13, e_gvR14, e_gvR15, e_gvR16, e_gvR17, e_gvR39, e_gvR40, e_gvR41, e_gvR42, e_gvR43, e_gvR44, e_gvR45, e_gvR46, e_gvR47, e_gvR48, e_kX0, e_kX1, e_kVv, e_kVx, e_kIv, e_kIx, e_kLv, e_kLx, e_kRv, e_kRx, e_thr, e_lk1, e_ic0, e_ic1, e_jm, st_ap, clr_ap, e_lceq, e_lclt, e_lcgt, nn, ↓reduceIte, Nat.reduceDiv, Nat.reduceMod, Nat.reduceMul, Nat.reduceAdd, Nat.reduceEqDiff, Nat.reduceLeDiff, Int.reduceNatCast, Int.cast_ofNat_Int, Int.reduceSub, Int.reduceMul, Int.reduceNeg, Int.reduceAdd, Int.reduceLE, Int.reduceLT, Int.reduceEq, Int.reduceNe, true_and, and_true, true_or, and_self, ne_eq, not_false_eq_true, Bool.false_eq_true, reduceCtorEq, rd_l1, rd_l2, rd_l3, rd_l4, rd_l5, rd_l6, rd_l7, rd_l8, rd_l9, SB, rd_ge, i2b_2, false_and, and_false, not_true_eq_false, l335_0, l335_2, l335_56, l335_58, l335_76, l335_107, l335_113, l335_120, l335_144, l335_195, l335_203, l335_233, s335_0, s335_2, s335_56, s335_58, s335_76, s335_107, s335_113, s335_120, s335_144, s335_195, s335_203, s335_233, zM_18, zM_19, zM_20, zM_21, zM_22, zM_23, zM_24, zM_25, zM_26, zM_27, zM_28, zM_29, zM_30, zM_31, zM_32, zM_33, zM_34, zM_35, zM_36, zM_37, zM_38, zM_39, zM_40, zM_41, zM_42, zM_43, zM_44, zM_45, zM_46, zM_47, zM_48, zM_49, zM_50, zM_51, zM_52, zM_53, zM_54, zM_55, zM_56, zM_57, zM_58, zM_59, zM_60, zM_61, zM_62, zM_63, zM_64, zM_65, zM_66, zM_67, zM_68, zM_69, zM_70, zM_71, zM_72, zM_73, zM_74, zM_75, zM_76, zM_77, zM_78, zM_79, zM_80, zM_81, zM_82, zM_83, zM_84, zM_85, zM_86, zM_87, zM_88, zM_89, zM_90, zM_91, zM_92, zM_93, zM_94, zM_95, zM_96, zM_97, zM_98, zM_99, zM_100, zM_101, zM_102, zM_103, zM_104, zM_105, zM_106, zM_107, zM_108, zM_109, zM_110, zM_111, zM_112, zM_113, zM_114, zM_115, zM_116, zM_117, zM_118, zM_119]
    refine J_negR (by omega) (J_andR (by omega) (J_andR (by omega) ?_))
    try refine J_posR (by omega) ?_
    refine J_andR (by omega) (J_andR (by omega) ?_)
    -- house's loose body
    have Fg : Fz (fun a _ => a = 28 + 2 * kk ∨ a = 29 + 2 * kk) (bgh p (f + 1) F fl h) (bgh p (f + 1) F fl h1) := bg_z FB
    have bgn1 : ∀ a j, a ≤ 251 → bgh p (f + 1) F fl h1 a j = h1 a j := fun a j g => bg_n (by omega) (by omega)
    have C1 : CHG β0 β D (e + 1) e h0 w0 (bgh p (f + 1) F fl h1) w := cg_h (c := e + 1) C kk0 nD Fg (Or.inr (by rw [bgn1 _ _ (by omega)]; exact v3)) (by rw [bgn _ _ (by omega), bgn1 _ _ (by omega), v3, kb]; omega)
    -- the model's cell
    have C2 : CHG β0 β D (e + 1) e h0 w0 (bgh p (f + 1) F fl h1) (st w 66 e (-1)) := by
      obtain ⟨R, K, Bd, FTs, ⟨l1, l2, l3, l4, l5⟩, P, O, tg⟩ := C1
      refine ⟨R, K, ⟨fun k' q => ?_, Bd.2⟩, fun q x y' => FNT_t (FTs q x y') (fun _ _ _ => rfl) (fun _ _ _ => ⟨rfl, rfl⟩) ⟨cw _ _ (by omega), cw _ _ (by omega), cw _ _ (by omega)⟩ (fun i _ _ => ⟨cw _ _ (by omega), cw _ _ (by omega)⟩), ⟨fun k' q => by rw [cw _ _ (by omega)]; exact l1 k' q, l2, fun x a b => by rw [cw _ _ (by omega)]; exact l3 x a b, l4, ?_⟩, ⟨P.1, fun q a y' => by rw [cw _ _ (by omega), cw _ _ (by omega), cw _ _ (by omega)]; exact P.2.1 q a y', fun j a y' => by rw [cw _ _ (by omega), cw _ _ (by omega)]; exact P.2.2 j a y'⟩, fun k' q => ?_, TG_t tg (fun p a b => ⟨cw _ _ (by omega), cw _ _ (by omega)⟩) (fun j a b => ⟨cw _ _ (by omega), cw _ _ (by omega)⟩)⟩
      · obtain ⟨y1, y2, y3, y4, y5⟩ := Bd.1 k' q
        refine ⟨y1, y2, y3, by rw [cw _ _ (by omega)]; exact y4, fun i i0 i1 => ?_⟩
        rw [cw _ _ (by omega)]; exact y5 i i0 i1
      · rw [smi_c (g := w 54) (fun k a b => cw _ _ (by omega))]; exact l5
      · obtain ⟨o1, o2, o3, o4, o5⟩ := O k' q
        exact ⟨o1, o2, o3, by rw [cw _ _ (by omega)]; exact o4, fun i i0 i1 => by rw [cw _ _ (by omega)]; exact o5 i i0 i1⟩
    obtain ⟨bb, w2, bb0, nb, ev2, d1, d2, d3, G2, C3⟩ := mg_fresh (m := m) (x := w 65 e) C2 (by omega) (by omega)
    refine J_RI ev2 ?_
    have c2 : ∀ a j, ¬ (52 ≤ a ∧ a ≤ 54) → w2 a j = (st w 66 e (-1)) a j := fun a j g => G2 a j (by omega)
    have c2w : ∀ a j, ¬ (52 ≤ a ∧ a ≤ 54) → a ≠ 66 → w2 a j = w a j := fun a j g1 g2 => by rw [c2 a j g1, cw a j g2]
    have fc1 : ∀ a j, ¬ (a = 28 + 2 * kk ∨ a = 29 + 2 * kk) → h1 a j = h a j := fun a j g => FB a j g
    have R2 : RDR r s b h1 w2 := RDR_t R (fun a j g => fc1 a j (by omega)) (fun a j g => c2w a j (by omega) (by omega))
    have N2 : ENT E s b h1 w2 := ENT_t N (fun a j g => fc1 a j (by omega)) (fun a j g => c2w a j (by omega) (by omega))
    refine m_cpE R2 N2 ⟨e00, e0⟩ bb0 ?_
    intro w3 P3 G3
    rw [c2w 65 _ (by omega) (by omega)] at P3 ⊢
    rw [c2w 64 _ (by omega) (by omega)] at P3
    have C4 : CHG β0 β D (e + 1) (e + 1) h0 w0 (bgh p (f + 1) F fl h1) w3 := cg_w (c := e + 1) C3 bb0 nb (fun a j g => G3 a j (by omega)) (Or.inr (by rw [G3 _ _ (by omega)]; exact d1)) (by
      have := C3.2.2.2.2.1.2.2.2.2
      rw [G3 54 _ (by omega)]; omega)
    have C5 := cg_tie (k := kk) (b := bb) C4 kk0 nD (by rw [bgn1 _ _ (by omega)]; exact v3) bb0 nb (by rw [G3 54 _ (by omega)]; exact d1) (by rw [bgn1 _ _ (by omega), v1]; omega) (by rw [G3 53 _ (by omega), bgn1 _ _ (by omega), v1]; exact d2) (fun i i0 i1 => by
      rw [bgn1 _ _ (by omega), v1] at i1
      rw [bgn1 _ _ (by omega), P3 i i0 i1, vb i i0 i1]
      have := R.2.2.2.2.2 (w 64 e + i) (by omega) (by omega)
      exact ⟨rfl, this.2.2⟩)
    have c3 : ∀ a j, a ≠ 66 → (st w3 66 e bb) a j = w3 a j := fun a j g => st_na g
    have c3w : ∀ a j, ¬ (52 ≤ a ∧ a ≤ 54) → a ≠ 66 → (st w3 66 e bb) a j = w a j := fun a j g1 g2 => by rw [c3 a j g2, G3 a j (by omega), c2w a j g1 g2]
    have uk : ufn β kk bb kk = bb := if_pos rfl
    have uo : ∀ d, D d → ufn β kk bb d = β d := fun d g => if_neg (fun q => nD (by rw [← q]; exact g))
    have C6 : CHG β0 (ufn β kk bb) (fun x => D x ∨ x = kk) (e + 1) (e + 1) h0 w0 (bgh p (f + 1) F fl h1) (st w3 66 e bb) := by
      obtain ⟨R, K, Bd, FTs, ⟨l1, l2, l3, l4, l5⟩, P, O, tg⟩ := C5
      refine ⟨R, K, ⟨fun k' q => ?_, Bd.2⟩, fun q x y' => FNT_t (FTs q x y') (fun _ _ _ => rfl) (fun _ _ _ => ⟨rfl, rfl⟩) ⟨c3 _ _ (by omega), c3 _ _ (by omega), c3 _ _ (by omega)⟩ (fun i _ _ => ⟨c3 _ _ (by omega), c3 _ _ (by omega)⟩), ⟨fun k' q => by rw [c3 _ _ (by omega)]; exact l1 k' q, l2, fun x a b => by rw [c3 _ _ (by omega)]; exact l3 x a b, l4, ?_⟩, ⟨P.1, fun q a y' => by rw [c3 _ _ (by omega), c3 _ _ (by omega), c3 _ _ (by omega)]; exact P.2.1 q a y', fun j a y' => by rw [c3 _ _ (by omega), c3 _ _ (by omega)]; exact P.2.2 j a y'⟩, fun k' q => ?_, TG_t tg (fun p a b => ⟨c3 _ _ (by omega), c3 _ _ (by omega)⟩) (fun j a b => ⟨c3 _ _ (by omega), c3 _ _ (by omega)⟩)⟩
      · obtain ⟨y1, y2, y3, y4, y5⟩ := Bd.1 k' q
        refine ⟨y1, y2, y3, by rw [c3 _ _ (by omega)]; exact y4, fun i i0 i1 => ?_⟩
        rw [c3 _ _ (by omega)]; exact y5 i i0 i1
      · rw [smi_c (g := w3 54) (fun k a b => c3 _ _ (by omega))]; exact l5
      · obtain ⟨o1, o2, o3, o4, o5⟩ := O k' q
        exact ⟨o1, o2, o3, by rw [c3 _ _ (by omega)]; exact o4, fun i i0 i1 => by rw [c3 _ _ (by omega)]; exact o5 i i0 i1⟩
    have nbt := cg_nb (v := w 63 e) C4 nb
    refine p_gvt (κ := κ) (μ := μ) (kk := kk) (RDR_t R2 (fun _ _ _ => rfl) (fun a j g => by rw [c3 a j (by omega), G3 a j (by omega)])) (ENT_t N2 (fun _ _ _ => rfl) (fun a j g => by rw [c3 a j (by omega), G3 a j (by omega)])) pf ⟨e00, e0⟩ (by omega) (by rw [c3w _ _ (by omega) (by omega)]; exact en) (fun i x y' => by rw [c3w _ _ (by omega) (by omega), c3w _ _ (by omega) (by omega)]; exact inc i x y') C6 (fun d x y' => ?_) (fun d d' x y' z sa => ?_) ?_ (fun i x y' => by rw [c3w _ _ (by omega) (by omega), c3w _ _ (by omega) (by omega)]; exact Q4 i x y') (Or.inr rfl) kk0 (by rw [st_eq, uk]) (fun q' i' u1 u2 u3 u4 => ?_) (fun d' u1 u2 u3 => ?_) ?_
    · obtain ⟨a1, a2, a3, a4⟩ := Q1 d x y'
      rw [st_nj (show d ≠ e by omega), G3 66 _ (by omega), c2 66 _ (by omega), st_nj (show d ≠ e by omega), fc1 364 _ (by omega), uo _ a1.1]
      refine ⟨⟨Or.inl a1.1, a1.2⟩, a2, a3, ?_⟩
      obtain ⟨q, i, i1, i2, i3, i4, i5⟩ := a4
      refine ⟨q, i, i1, ?_, ?_, ?_, ?_⟩
      · rw [c3w 55 _ (by omega) (by omega)]; exact i2
      · rw [c3w 57 _ (by omega) (by omega)]; exact i3
      · rw [c3w 59 _ (by omega) (by omega)]; exact i4
      · rw [c3w 58 _ (by omega) (by omega), c3w 63 _ (by omega) (by omega)]; exact i5
    · unfold sam at sa
      rw [c3w 63 _ (by omega) (by omega), c3w 63 _ (by omega) (by omega), c3w 64 _ (by omega) (by omega), c3w 64 _ (by omega) (by omega), c3w 65 _ (by omega) (by omega), c3w 65 _ (by omega) (by omega)] at sa
      exact Q2 d d' x y' z sa
    · rw [c3w 55 _ (by omega) (by omega), c3w 56 _ (by omega) (by omega), c3w 57 _ (by omega) (by omega), fc1 _ _ (by omega), fc1 _ _ (by omega), fc1 _ _ (by omega)]; exact Q3
    · rw [uk] at u4
      rw [c3 55 _ (by omega)] at u2
      rw [c3 57 _ (by omega)] at u3
      rw [c3 59 _ (by omega)] at u4
      rw [c3 58 _ (by omega), c3w 63 _ (by omega) (by omega)]
      exact nbt q' i' u1 u2 u3 u4
    · unfold sam at u3
      rw [c3w 63 _ (by omega) (by omega), c3w 63 _ (by omega) (by omega), c3w 64 _ (by omega) (by omega), c3w 64 _ (by omega) (by omega), c3w 65 _ (by omega) (by omega), c3w 65 _ (by omega) (by omega)] at u3
      exact absurd u3 (nns d' u1 u2)
    · intro h4 w4 V4 F4 G4
      refine fin _ _ _ _ h4 w4 _ _ V4 (Fz_tr (Fz_mo FB (fun a j g => ?_)) F4) (fun a j g => ?_)
      · have g : a = 28 + 2 * kk ∨ a = 29 + 2 * kk := g
        unfold gvC stC; omega
      · have g' : ¬ ((52 ≤ a ∧ a ≤ 59) ∨ a = 66) := g
        rw [G4 a j g, c3w a j (by omega) (by omega)]
end
