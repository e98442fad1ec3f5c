set_option maxRecDepth 100000
theorem gbR_u {w : Mem} {L M N : Int → List Int} (a : gbR w L M) (b : gbR w L N) : M = N := by
  rcases a with ⟨a1, a2⟩ | ⟨a1, a2, a3⟩ | ⟨a1, a2, a3⟩ <;> rcases b with ⟨b1, b2⟩ | ⟨b1, b2, b3⟩ | ⟨b1, b2, b3⟩
  · rw [a2, b2]
  · omega
  · omega
  · omega
  · rw [a3, b3]
  · exact absurd a2 b2
  · omega
  · exact absurd b2 a2
  · rw [a3, b3]
theorem q25_l (v : Int) : (q25 v).length ≤ 3 := by unfold q25; repeat' (first | (simp; done) | split)
theorem enL_l (E : Int → Int) : ∀ k : Nat, (enL E k).length ≤ 3 * k := by
  intro k
  induction k with
  | zero => simp [enL]
  | succ k ih => have := q25_l (E k - (if k = 0 then -1 else E ((k : Int) - 1))); rw [enL, List.length_append]; omega
section
variable {A B : Qt → Prop} {Φ : Out → Int → Mem → Out → Int → Mem → Prop} {KL KM : Qt → Qt} {n m : Int} {h w : Mem} {al : Int}
theorem GRD_w {w1 : Mem} (G : GRD al h w) (F : Fz tnM w w1) : GRD al h w1 := GRD_t G Fz_0 (Fz_mo F (fun a j q => by unfold tnM at q; omega))
theorem m_kd {L : Int → List Int} {w0 : Mem} {o2 o3 : Option V} (S : TSM L w) (F0 : Fz tnM w0 w) (C : CDR h w0) (r : ∀ k, 0 ≤ k → k < 7 → ((L k).length : Int) ≤ 700000)
    (fin : ∀ w1 : Mem, TSM (cdU w0 L) w1 → Fz tnM w0 w1 → J2 A (fun Q => KM Q (.inl none) m w1) Φ) :
    J2 A (fun Q => T gM 426 [vR 33 17, vI 3, vI (w 17 77)] m w (kV (thr (KM Q)) fun n h => T_at gM 424 295 [some (vR 33 17), some (vI 0), o2, o3] [] n h (KM Q))) Φ := by
  obtain ⟨c1, c2, c3⟩ := C
  have e77 : w 17 77 = w0 17 77 := F0 _ _ (by unfold tnM; omega)
  rw [e77]
  obtain ⟨w1, e1, M1, F1⟩ := m_426 (m := m) (k := 3) (v := w0 17 77) (by omega) (by omega) (S 3 (by omega) (by omega)) (by have := r 3 (by omega) (by omega); omega)
  have S1 := TSM_s (k := 3) S (by omega) M1 F1
  have F01 := Fz_tr F0 (ms_tn F1)
  have e81 : ∀ j, w1 81 j = w0 81 j := fun j => F01 _ _ (by unfold tnM; omega)
  refine J_RV e1 ?_
  have l6 : ((upl L 3 (q25 (w0 17 77)) 6).length : Int) ≤ 700000 := by rw [upl_n (by omega)]; exact r 6 (by omega) (by omega)
  refine m_code6 (c := w0 17 77) c2 (F01 _ _ (by unfold tnM; omega)) (fun i a b => by rw [e81, ← (c3 i a b).1]; exact (c3 i a b).2) (S1 6 (by omega) (by omega)) (by omega) ?_
  intro w2 M2 F2
  rw [show w1 81 = w0 81 from funext e81] at M2
  exact fin w2 (TSM_s (k := 6) S1 (by omega) M2 F2) (Fz_tr F01 (ms_tn F2))
/-- a glyph of the model is turned (424) -/
theorem m_424 {L : Int → List Int} (S : TSM L w) (G : GRD al h w) (r : ∀ k, 0 ≤ k → k < 7 → ((L k).length : Int) ≤ 600000)
    (f0 : ∀ w1 : Mem, w 17 73 = 0 → TSM (upl L 0 (f2 (w 17 73))) w1 → Fz tnM w w1 → J2 A (fun Q => KM Q (.inl none) m w1) Φ)
    (f1 : ∀ (w1 : Mem) (L' : Int → List Int), w 17 73 ≠ 0 → gbR w (upl L 0 (f2 (w 17 73))) L' → TSM L' w1 → Fz tnM w w1 → J2 A (fun Q => KM Q (.inl none) m w1) Φ) :
    J2 A (fun Q => T gM 424 [vR 33 17] m w (KM Q)) Φ := by
  obtain ⟨g1, g2, g3, g4⟩ := id G
  obtain ⟨w1, e1, M1, F1⟩ := m_425 (m := m) (k := 0) (v := w 17 73) (by omega) (S 0 (by omega) (by omega)) (by have := r 0 (by omega) (by omega); omega)
  have S1 : TSM (upl L 0 (f2 (w 17 73))) w1 := TSM_s (k := 0) S (by omega) M1 F1
  have F01 := ms_tn F1
  have r1 : ∀ k, 0 ≤ k → k < 7 → ((upl L 0 (f2 (w 17 73)) k).length : Int) ≤ 600002 := by
    intro k a b
    have := r k a b
    unfold upl
    split
    · rw [List.length_append, show (f2 (w 17 73)).length = 2 from rfl]; omega
    · omega
  have fe : ∀ {w2 : Mem}, Fz tnM w w2 → ∀ a j, a < 109 → w2 a j = w a j := fun F a j x => F a j (by unfold tnM; omega)
  refine J_impR (fun Q hq => T_go (md := true) [some (vR 33 17), none, none, none] [20, 56, 135, 167, 226, 295] 99 (by decide) rfl (Nat.le_of_ble_eq_true rfl) GM FM rfl k424 hq) ?_
  simp -implicitDefEqProofs only [r_iconst, r_bipush, r_sipush, r_ldc, r_ldc_w, r_lconst, r_ldc2_w, r_aconst_null, r_iload, r_iload_n, r_lload, r_lload_n, r_aload, r_aload_n, r_istore, r_istore_n, r_lstore, r_lstore_n, r_astore, r_astore_n, r_iinc, r_iadd, r_iaddW, r_isub, r_isubW, r_imul, r_imulW, r_ladd, r_laddW, r_lsub, r_lsubW, r_lmul, r_lmulW, r_iand, r_ior, r_ishl, r_ishr, r_iushr, r_land, r_lor, r_lshl, r_lshr, r_lushr, r_idiv, r_irem, r_ldiv, r_lrem, r_lcmp, r_ineg, r_i2l, r_l2i, r_i2b, r_i2s, r_i2c, r_dup, r_pop, r_dup_x1, r_dup_x2, r_dup2, r_dup2L, r_icmp_eq, r_icmp_ne, r_icmp_lt, r_icmp_ge, r_icmp_gt, r_icmp_le, r_if_eq, r_if_ne, r_if_lt, r_if_ge, r_if_gt, r_if_le, r_acmp_eq, r_acmp_ne, r_ifnull, r_ifnonnull, r_goto, r_nop, r_tsw, r_lsw, r_getfield, r_getfinal, r_putfield, r_getstaticL, r_getstaticR, r_iaload, r_baload, r_saload, r_laload, r_aaload, r_aaloadM, r_iastore, r_bastore, r_zastore, r_sastore, r_lastore, r_aastore, r_alen, r_new, r_newarray, r_anewarray, r_invV, r_invI, r_objI, r_invS, r_acp, r_ireturn, r_zreturn, r_lreturn, r_return, r_areturn, r_athrow, ↓e_pI, ↓e_pL, ↓e_pR, ↓e_lg0, ↓e_lg1, ↓e_tk0, ↓e_tkI0, ↓e_tkI1, ↓e_tkI2, ↓e_tkI3, ↓e_tkI4, ↓e_tkL, ↓e_tkR0_0, ↓e_tkR0_1, ↓e_tkR1_0, ↓e_tkR1_1, ↓e_tkR2_0, ↓e_tkR2_1, ↓e_tkR3_0, ↓e_tkR3_1, ↓e_tkR4_0, ↓e_tkR4_1, ↓e_tkR5_0, ↓e_tkR5_1, ↓e_tkR6_0, ↓e_tkR6_1, ↓e_tkR7_0, ↓e_tkR7_1, ↓e_tkR8_0, ↓e_tkR8_1, ↓e_tkR9_0, ↓e_tkR9_1, ↓e_tkR10_0, ↓e_tkR10_1, ↓e_tkR11_0, ↓e_tkR11_1, ↓e_tkR12_0, ↓e_tkR12_1, ↓e_tkR13_0, ↓e_tkR13_1, ↓e_tkR14_0, ↓e_tkR14_1, ↓e_tkR15_0, ↓e_tkR15_1, ↓e_tkR16_0, ↓e_tkR16_1, ↓e_tkR17_0, ↓e_tkR17_1, ↓e_tkR39_0, ↓e_tkR39_1, ↓e_tkR40_0, ↓e_tkR40_1, ↓e_tkR41_0, ↓e_tkR41_1, ↓e_tkR42_0, ↓e_tkR42_1, ↓e_tkR43_0, ↓e_tkR43_1, ↓e_tkR44_0, ↓e_tkR44_1, ↓e_tkR45_0, ↓e_tkR45_1, ↓e_tkR46_0, ↓e_tkR46_1, ↓e_tkR47_0, ↓e_tkR47_1, ↓e_tkR48_0, ↓e_tkR48_1, ↓e_pv0, ↓e_pv1, ↓e_pv2, ↓e_pv3, ↓e_pv5, ↓e_pvR, ↓e_tsw0, ↓e_tsw1, ↓e_lsw0, ↓e_lsw1, e_kq100, e_kq0, e_kq3, e_kq5, e_kqR0, e_kqR1, e_kqR2, e_kqR3, e_kqR4, e_kqR5, e_kqR6, e_kqR7, e_kqR8, e_kqR9, e_kqR10, e_kqR11, e_kqR12, e_kqR13, e_kqR14, e_kqR15, e_kqR16, e_kqR17, e_kqR39, e_kqR40, e_kqR41, e_kqR42, e_kqR43, e_kqR44, e_kqR45, e_kqR46, e_kqR47, e_kqR48, e_st0I, e_st0R, e_st0L, e_st1N, e_st1I, e_st1L, e_st1R, e_st2, e_wd0, e_wdI, e_wdL, e_wdR, e_c1I, e_c1R, e_gv0, e_gv1, e_gv2, e_gv3, e_gv4, e_gv5, e_gvR0, e_gvR1, e_gvR2, e_gvR3, e_gvR4, e_gvR5, e_gvR6, e_gvR7, e_gvR8, e_gvR9, e_gvR10, e_gvR11, e_gvR12, e_gvR13, e_gvR14, e_gvR15, e_gvR16, e_gvR17, e_gvR39, e_gvR40, e_gvR41, e_gvR42, e_gvR43, e_gvR44, e_gvR45, e_gvR46, e_gvR47, e_gvR48, e_kX0, e_kX1, e_kVv, e_kVx, e_kIv, e_kIx, e_kLv, e_kLx, e_kRv, e_kRx, e_thr, e_lk1, e_ic0, e_ic1, e_jm, st_ap, clr_ap, e_lceq, e_lclt, e_lcgt, nn, ↓reduceIte, Nat.reduceDiv, Nat.reduceMod, Nat.reduceMul, Nat.reduceAdd, Nat.reduceEqDiff, Nat.reduceLeDiff, Int.reduceNatCast, Int.cast_ofNat_Int, Int.reduceSub, Int.reduceMul, Int.reduceNeg, Int.reduceAdd, Int.reduceLE, Int.reduceLT, Int.reduceEq, Int.reduceNe, true_and, and_true, true_or, and_self, ne_eq, not_false_eq_true, Bool.false_eq_true, reduceCtorEq, rd_l1, rd_l2, rd_l3, rd_l4, rd_l5, rd_l6, rd_l7, rd_l8, rd_l9, SB, rd_ge, i2b_2, false_and, and_false, not_true_eq_false, l424_0, l424_20, l424_54, l424_56, l424_86, l424_87, l424_109, l424_110, l424_126, l424_135, l424_167, l424_185, l424_191, l424_212, l424_218, l424_224, l424_226, l424_257, l424_263, l424_284, l424_295, l424_321, s424_0, s424_20, s424_54, s424_56, s424_86, s424_87, s424_109, s424_110, s424_126, s424_135, s424_167, s424_185, s424_191, s424_212, s424_218, s424_224, s424_226, s424_257, s424_263, s424_284, s424_295, s424_321, zM_18, zM_19, zM_20, zM_21, zM_22, zM_23, zM_24, zM_25, zM_26, zM_27, zM_28, zM_29, zM_30, zM_31, zM_32, zM_33, zM_34, zM_35, zM_36, zM_37, zM_38, zM_39, zM_40, zM_41, zM_42, zM_43, zM_44, zM_45, zM_46, zM_47, zM_48, zM_49, zM_50, zM_51, zM_52, zM_53, zM_54, zM_55, zM_56, zM_57, zM_58, zM_59, zM_60, zM_61, zM_62, zM_63, zM_64, zM_65, zM_66, zM_67, zM_68, zM_69, zM_70, zM_71, zM_72, zM_73, zM_74, zM_75, zM_76, zM_77, zM_78, zM_79, zM_80, zM_81, zM_82, zM_83, zM_84, zM_85, zM_86, zM_87, zM_88, zM_89, zM_90, zM_91, zM_92, zM_93, zM_94, zM_95, zM_96, zM_97, zM_98, zM_99, zM_100, zM_101, zM_102, zM_103, zM_104, zM_105, zM_106, zM_107, zM_108, zM_109, zM_110, zM_111, zM_112, zM_113, zM_114, zM_115, zM_116, zM_117, zM_118, zM_119]
  refine J_RV e1 ?_
  rw [fe F01 17 73 (by omega)]
  by_cases z0 : w 17 73 = 0
  · rw [z0]
    repeat (first | refine J_andL (by first | omega | (constructor <;> omega)) ?_ | refine J_andR (by first | omega | (constructor <;> omega)) ?_ | refine J_posL (by first | omega | (constructor <;> omega)) ?_ | refine J_negL (by first | omega | (constructor <;> omega)) ?_ | refine J_posR (by first | omega | (constructor <;> omega)) ?_ | refine J_negR (by first | omega | (constructor <;> omega)) ?_)
    exact f0 w1 z0 S1 F01
  rcases g4 with q | ⟨q, O, -, -⟩ | ⟨q, q1, q2, q3, q4, PT, CD, -⟩
  · omega
  · obtain ⟨o1, o2, o3, o4, o5, o6, o7, o8, CD⟩ := O
    refine J_posR q ?_
    have e70 : w1 70 = w 70 := funext fun j => fe F01 _ _ (by omega)
    refine m_ends (c := w 17 73) (by omega) (by rw [fe F01 _ _ (by omega)]; exact o1) ?_ (S1 1 (by omega) (by omega)) (by have := r1 1 (by omega) (by omega); omega) ?_
    · intro i a b
      have z := o7.1 i a b
      rw [e70]
      by_cases e : i = 0
      · rw [if_pos e]; omega
      · rw [if_neg e]
        have := z.2.2 (by omega)
        omega
    intro w2 x M2 F2
    rw [e70] at M2
    have S2 := TSM_s (k := 1) S1 (by omega) M2 F2
    have F02 := Fz_tr F01 (ms_tn F2)
    refine J_impR (fun Q hq => blk (md := true) [20, 56, 135, 167, 226, 295] 99 GM FM rfl k424 hq) ?_
    simp -implicitDefEqProofs only [r_iconst, r_bipush, r_sipush, r_ldc, r_ldc_w, r_lconst, r_ldc2_w, r_aconst_null, r_iload, r_iload_n, r_lload, r_lload_n, r_aload, r_aload_n, r_istore, r_istore_n, r_lstore, r_lstore_n, r_astore, r_astore_n, r_iinc, r_iadd, r_iaddW, r_isub, r_isubW, r_imul, r_imulW, r_ladd, r_laddW, r_lsub, r_lsubW, r_lmul, r_lmulW, r_iand, r_ior, r_ishl, r_ishr, r_iushr, r_land, r_lor, r_lshl, r_lshr, r_lushr, r_idiv, r_irem, r_ldiv, r_lrem, r_lcmp, r_ineg, r_i2l, r_l2i, r_i2b, r_i2s, r_i2c, r_dup, r_pop, r_dup_x1, r_dup_x2, r_dup2, r_dup2L, r_icmp_eq, r_icmp_ne, r_icmp_lt, r_icmp_ge, r_icmp_gt, r_icmp_le, r_if_eq, r_if_ne, r_if_lt, r_if_ge, r_if_gt, r_if_le, r_acmp_eq, r_acmp_ne, r_ifnull, r_ifnonnull, r_goto, r_nop, r_tsw, r_lsw, r_getfield, r_getfinal, r_putfield, r_getstaticL, r_getstaticR, r_iaload, r_baload, r_saload, r_laload, r_aaload, r_aaloadM, r_iastore, r_bastore, r_zastore, r_sastore, r_lastore, r_aastore, r_alen, r_new, r_newarray, r_anewarray, r_invV, r_invI, r_objI, r_invS, r_acp, r_ireturn, r_zreturn, r_lreturn, r_return, r_areturn, r_athrow, ↓e_pI, ↓e_pL, ↓e_pR, ↓e_lg0, ↓e_lg1, ↓e_tk0, ↓e_tkI0, ↓e_tkI1, ↓e_tkI2, ↓e_tkI3, ↓e_tkI4, ↓e_tkL, ↓e_tkR0_0, ↓e_tkR0_1, ↓e_tkR1_0, ↓e_tkR1_1, ↓e_tkR2_0, ↓e_tkR2_1, ↓e_tkR3_0, ↓e_tkR3_1, ↓e_tkR4_0, ↓e_tkR4_1, ↓e_tkR5_0, ↓e_tkR5_1, ↓e_tkR6_0, ↓e_tkR6_1, ↓e_tkR7_0, ↓e_tkR7_1, ↓e_tkR8_0, ↓e_tkR8_1, ↓e_tkR9_0, ↓e_tkR9_1, ↓e_tkR10_0, ↓e_tkR10_1, ↓e_tkR11_0, ↓e_tkR11_1, ↓e_tkR12_0, ↓e_tkR12_1, ↓e_tkR13_0, ↓e_tkR13_1, ↓e_tkR14_0, ↓e_tkR14_1, ↓e_tkR15_0, ↓e_tkR15_1, ↓e_tkR16_0, ↓e_tkR16_1, ↓e_tkR17_0, ↓e_tkR17_1, ↓e_tkR39_0, ↓e_tkR39_1, ↓e_tkR40_0, ↓e_tkR40_1, ↓e_tkR41_0, ↓e_tkR41_1, ↓e_tkR42_0, ↓e_tkR42_1, ↓e_tkR43_0, ↓e_tkR43_1, ↓e_tkR44_0, ↓e_tkR44_1, ↓e_tkR45_0, ↓e_tkR45_1, ↓e_tkR46_0, ↓e_tkR46_1, ↓e_tkR47_0, ↓e_tkR47_1, ↓e_tkR48_0, ↓e_tkR48_1, ↓e_pv0, ↓e_pv1, ↓e_pv2, ↓e_pv3, ↓e_pv5, ↓e_pvR, ↓e_tsw0, ↓e_tsw1, ↓e_lsw0, ↓e_lsw1, e_kq100, e_kq0, e_kq3, e_kq5, e_kqR0, e_kqR1, e_kqR2, e_kqR3, e_kqR4, e_kqR5, e_kqR6, e_kqR7, e_kqR8, e_kqR9, e_kqR10, e_kqR11, e_kqR12, e_kqR13, e_kqR14, e_kqR15, e_kqR16, e_kqR17, e_kqR39, e_kqR40, e_kqR41, e_kqR42, e_kqR43, e_kqR44, e_kqR45, e_kqR46, e_kqR47, e_kqR48, e_st0I, e_st0R, e_st0L, e_st1N, e_st1I, e_st1L, e_st1R, e_st2, e_wd0, e_wdI, e_wdL, e_wdR, e_c1I, e_c1R, e_gv0, e_gv1, e_gv2, e_gv3, e_gv4, e_gv5, e_gvR0, e_gvR1, e_gvR2, e_gvR3, e_gvR4, e_gvR5, e_gvR6, e_gvR7, e_gvR8, e_gvR9, e_gvR10, e_gvR11, e_gvR12, e_gvR13, e_gvR14, e_gvR15, e_gvR16, e_gvR17, e_gvR39, e_gvR40, e_gvR41, e_gvR42, e_gvR43, e_gvR44, e_gvR45, e_gvR46, e_gvR47, e_gvR48, e_kX0, e_kX1, e_kVv, e_kVx, e_kIv, e_kIx, e_kLv, e_kLx, e_kRv, e_kRx, e_thr, e_lk1, e_ic0, e_ic1, e_jm, st_ap, clr_ap, e_lceq, e_lclt, e_lcgt, nn, ↓reduceIte, Nat.reduceDiv, Nat.reduceMod, Nat.reduceMul, Nat.reduceAdd, Nat.reduceEqDiff, Nat.reduceLeDiff, Int.reduceNatCast, Int.cast_ofNat_Int, Int.reduceSub, Int.reduceMul, Int.reduceNeg, Int.reduceAdd, Int.reduceLE, Int.reduceLT, Int.reduceEq, Int.reduceNe, true_and, and_true, true_or, and_self, ne_eq, not_false_eq_true, Bool.false_eq_true, reduceCtorEq, rd_l1, rd_l2, rd_l3, rd_l4, rd_l5, rd_l6, rd_l7, rd_l8, rd_l9, SB, rd_ge, i2b_2, false_and, and_false, not_true_eq_false, l424_0, l424_20, l424_54, l424_56, l424_86, l424_87, l424_109, l424_110, l424_126, l424_135, l424_167, l424_185, l424_191, l424_212, l424_218, l424_224, l424_226, l424_257, l424_263, l424_284, l424_295, l424_321, s424_0, s424_20, s424_54, s424_56, s424_86, s424_87, s424_109, s424_110, s424_126, s424_135, s424_167, s424_185, s424_191, s424_212, s424_218, s424_224, s424_226, s424_257, s424_263, s424_284, s424_295, s424_321, zM_18, zM_19, zM_20, zM_21, zM_22, zM_23, zM_24, zM_25, zM_26, zM_27, zM_28, zM_29, zM_30, zM_31, zM_32, zM_33, zM_34, zM_35, zM_36, zM_37, zM_38, zM_39, zM_40, zM_41, zM_42, zM_43, zM_44, zM_45, zM_46, zM_47, zM_48, zM_49, zM_50, zM_51, zM_52, zM_53, zM_54, zM_55, zM_56, zM_57, zM_58, zM_59, zM_60, zM_61, zM_62, zM_63, zM_64, zM_65, zM_66, zM_67, zM_68, zM_69, zM_70, zM_71, zM_72, zM_73, zM_74, zM_75, zM_76, zM_77, zM_78, zM_79, zM_80, zM_81, zM_82, zM_83, zM_84, zM_85, zM_86, zM_87, zM_88, zM_89, zM_90, zM_91, zM_92, zM_93, zM_94, zM_95, zM_96, zM_97, zM_98, zM_99, zM_100, zM_101, zM_102, zM_103, zM_104, zM_105, zM_106, zM_107, zM_108, zM_109, zM_110, zM_111, zM_112, zM_113, zM_114, zM_115, zM_116, zM_117, zM_118, zM_119]
    rw [fe F02 17 74 (by omega), o1]
    repeat (first | refine J_andL (by first | omega | (constructor <;> omega)) ?_ | refine J_andR (by first | omega | (constructor <;> omega)) ?_ | refine J_posL (by first | omega | (constructor <;> omega)) ?_ | refine J_negL (by first | omega | (constructor <;> omega)) ?_ | refine J_posR (by first | omega | (constructor <;> omega)) ?_ | refine J_negR (by first | omega | (constructor <;> omega)) ?_)
    have e71 : w2 71 = w 71 := funext fun j => fe F02 _ _ (by omega)
    have e72 : w2 72 = w 72 := funext fun j => fe F02 _ _ (by omega)
    have e73 : w2 73 = w 73 := funext fun j => fe F02 _ _ (by omega)
    refine m_pts (cn := w 17 75) (by omega) (fe F02 _ _ (by omega)) (fun i a b => by rw [e71]; exact (o4 i a b).2) (fun i a b => by rw [e72]; exact (o5 i a b).2) (S2 2 (by omega) (by omega)) (S2 3 (by omega) (by omega)) (by rw [upl_n (by omega)]; have := r1 2 (by omega) (by omega); omega) (by rw [upl_n (by omega)]; have := r1 3 (by omega) (by omega); omega) ?_
    intro w3 M3 M4 F3
    rw [e71, e72] at M3 M4
    rw [e73] at M3
    have F03 : Fz tnM w w3 := Fz_tr F02 (Fz_mo F3 (fun a j q => by unfold m23 msF at q; unfold tnM; omega))
    have S3 : TSM (ouU w (upl L 0 (f2 (w 17 73)))) w3 := by
      intro k a b
      unfold ouU
      by_cases e3 : k = 3
      · rw [e3, upl_e, upl_n (by omega)]; exact M4
      rw [upl_n e3]
      by_cases e2 : k = 2
      · rw [e2, upl_e]; exact M3
      rw [upl_n e2]
      exact MGS_t (S2 k a b) (fun a j q => F3 a j (by unfold msF at q; unfold m23 msF; omega))
    refine J_impR (fun Q hq => blk (md := true) [20, 56, 135, 167, 226, 295] 99 GM FM rfl k424 hq) ?_
    simp -implicitDefEqProofs only [r_iconst, r_bipush, r_sipush, r_ldc, r_ldc_w, r_lconst, r_ldc2_w, r_aconst_null, r_iload, r_iload_n, r_lload, r_lload_n, r_aload, r_aload_n, r_istore, r_istore_n, r_lstore, r_lstore_n, r_astore, r_astore_n, r_iinc, r_iadd, r_iaddW, r_isub, r_isubW, r_imul, r_imulW, r_ladd, r_laddW, r_lsub, r_lsubW, r_lmul, r_lmulW, r_iand, r_ior, r_ishl, r_ishr, r_iushr, r_land, r_lor, r_lshl, r_lshr, r_lushr, r_idiv, r_irem, r_ldiv, r_lrem, r_lcmp, r_ineg, r_i2l, r_l2i, r_i2b, r_i2s, r_i2c, r_dup, r_pop, r_dup_x1, r_dup_x2, r_dup2, r_dup2L, r_icmp_eq, r_icmp_ne, r_icmp_lt, r_icmp_ge, r_icmp_gt, r_icmp_le, r_if_eq, r_if_ne, r_if_lt, r_if_ge, r_if_gt, r_if_le, r_acmp_eq, r_acmp_ne, r_ifnull, r_ifnonnull, r_goto, r_nop, r_tsw, r_lsw, r_getfield, r_getfinal, r_putfield, r_getstaticL, r_getstaticR, r_iaload, r_baload, r_saload, r_laload, r_aaload, r_aaloadM, r_iastore, r_bastore, r_zastore, r_sastore, r_lastore, r_aastore, r_alen, r_new, r_newarray, r_anewarray, r_invV, r_invI, r_objI, r_invS, r_acp, r_ireturn, r_zreturn, r_lreturn, r_return, r_areturn, r_athrow, ↓e_pI, ↓e_pL, ↓e_pR, ↓e_lg0, ↓e_lg1, ↓e_tk0, ↓e_tkI0, ↓e_tkI1, ↓e_tkI2, ↓e_tkI3, ↓e_tkI4, ↓e_tkL, ↓e_tkR0_0, ↓e_tkR0_1, ↓e_tkR1_0, ↓e_tkR1_1, ↓e_tkR2_0, ↓e_tkR2_1, ↓e_tkR3_0, ↓e_tkR3_1, ↓e_tkR4_0, ↓e_tkR4_1, ↓e_tkR5_0, ↓e_tkR5_1, ↓e_tkR6_0, ↓e_tkR6_1, ↓e_tkR7_0, ↓e_tkR7_1, ↓e_tkR8_0, ↓e_tkR8_1, ↓e_tkR9_0, ↓e_tkR9_1, ↓e_tkR10_0, ↓e_tkR10_1, ↓e_tkR11_0, ↓e_tkR11_1, ↓e_tkR12_0, ↓e_tkR12_1, ↓e_tkR13_0, ↓e_tkR13_1, ↓e_tkR14_0, ↓e_tkR14_1, ↓e_tkR15_0, ↓e_tkR15_1, ↓e_tkR16_0, ↓e_tkR16_1, ↓e_tkR17_0, ↓e_tkR17_1, ↓e_tkR39_0, ↓e_tkR39_1, ↓e_tkR40_0, ↓e_tkR40_1, ↓e_tkR41_0, ↓e_tkR41_1, ↓e_tkR42_0, ↓e_tkR42_1, ↓e_tkR43_0, ↓e_tkR43_1, ↓e_tkR44_0, ↓e_tkR44_1, ↓e_tkR45_0, ↓e_tkR45_1, ↓e_tkR46_0, ↓e_tkR46_1, ↓e_tkR47_0, ↓e_tkR47_1, ↓e_tkR48_0, ↓e_tkR48_1, ↓e_pv0, ↓e_pv1, ↓e_pv2, ↓e_pv3, ↓e_pv5, ↓e_pvR, ↓e_tsw0, ↓e_tsw1, ↓e_lsw0, ↓e_lsw1, e_kq100, e_kq0, e_kq3, e_kq5, e_kqR0, e_kqR1, e_kqR2, e_kqR3, e_kqR4, e_kqR5, e_kqR6, e_kqR7, e_kqR8, e_kqR9, e_kqR10, e_kqR11, e_kqR12, e_kqR13, e_kqR14, e_kqR15, e_kqR16, e_kqR17, e_kqR39, e_kqR40, e_kqR41, e_kqR42, e_kqR43, e_kqR44, e_kqR45, e_kqR46, e_kqR47, e_kqR48, e_st0I, e_st0R, e_st0L, e_st1N, e_st1I, e_st1L, e_st1R, e_st2, e_wd0, e_wdI, e_wdL, e_wdR, e_c1I, e_c1R, e_gv0, e_gv1, e_gv2, e_gv3, e_gv4, e_gv5, e_gvR0, e_gvR1, e_gvR2, e_gvR3, e_gvR4, e_gvR5, e_gvR6, e_gvR7, e_gvR8, e_gvR9, e_gvR10, e_gvR11, e_gvR12, e_gvR13, e_gvR14, e_gvR15, e_gvR16, e_gvR17, e_gvR39, e_gvR40, e_gvR41, e_gvR42, e_gvR43, e_gvR44, e_gvR45, e_gvR46, e_gvR47, e_gvR48, e_kX0, e_kX1, e_kVv, e_kVx, e_kIv, e_kIx, e_kLv, e_kLx, e_kRv, e_kRx, e_thr, e_lk1, e_ic0, e_ic1, e_jm, st_ap, clr_ap, e_lceq, e_lclt, e_lcgt, nn, ↓reduceIte, Nat.reduceDiv, Nat.reduceMod, Nat.reduceMul, Nat.reduceAdd, Nat.reduceEqDiff, Nat.reduceLeDiff, Int.reduceNatCast, Int.cast_ofNat_Int, Int.reduceSub, Int.reduceMul, Int.reduceNeg, Int.reduceAdd, Int.reduceLE, Int.reduceLT, Int.reduceEq, Int.reduceNe, true_and, and_true, true_or, and_self, ne_eq, not_false_eq_true, Bool.false_eq_true, reduceCtorEq, rd_l1, rd_l2, rd_l3, rd_l4, rd_l5, rd_l6, rd_l7, rd_l8, rd_l9, SB, rd_ge, i2b_2, false_and, and_false, not_true_eq_false, l424_0, l424_20, l424_54, l424_56, l424_86, l424_87, l424_109, l424_110, l424_126, l424_135, l424_167, l424_185, l424_191, l424_212, l424_218, l424_224, l424_226, l424_257, l424_263, l424_284, l424_295, l424_321, s424_0, s424_20, s424_54, s424_56, s424_86, s424_87, s424_109, s424_110, s424_126, s424_135, s424_167, s424_185, s424_191, s424_212, s424_218, s424_224, s424_226, s424_257, s424_263, s424_284, s424_295, s424_321, zM_18, zM_19, zM_20, zM_21, zM_22, zM_23, zM_24, zM_25, zM_26, zM_27, zM_28, zM_29, zM_30, zM_31, zM_32, zM_33, zM_34, zM_35, zM_36, zM_37, zM_38, zM_39, zM_40, zM_41, zM_42, zM_43, zM_44, zM_45, zM_46, zM_47, zM_48, zM_49, zM_50, zM_51, zM_52, zM_53, zM_54, zM_55, zM_56, zM_57, zM_58, zM_59, zM_60, zM_61, zM_62, zM_63, zM_64, zM_65, zM_66, zM_67, zM_68, zM_69, zM_70, zM_71, zM_72, zM_73, zM_74, zM_75, zM_76, zM_77, zM_78, zM_79, zM_80, zM_81, zM_82, zM_83, zM_84, zM_85, zM_86, zM_87, zM_88, zM_89, zM_90, zM_91, zM_92, zM_93, zM_94, zM_95, zM_96, zM_97, zM_98, zM_99, zM_100, zM_101, zM_102, zM_103, zM_104, zM_105, zM_106, zM_107, zM_108, zM_109, zM_110, zM_111, zM_112, zM_113, zM_114, zM_115, zM_116, zM_117, zM_118, zM_119]
    rw [fe F03 17 75 (by omega), fe F03 17 73 (by omega)]
    repeat (first | refine J_andL (by first | omega | (constructor <;> omega)) ?_ | refine J_andR (by first | omega | (constructor <;> omega)) ?_ | refine J_posL (by first | omega | (constructor <;> omega)) ?_ | refine J_negL (by first | omega | (constructor <;> omega)) ?_ | refine J_posR (by first | omega | (constructor <;> omega)) ?_ | refine J_negR (by first | omega | (constructor <;> omega)) ?_)
    refine m_kd (h := h) (w0 := w) S3 F03 CD ?_ ?_
    · intro k a b
      have q1 := r1 k a b
      have q2 := enL_l (w 70) (w 17 73).toNat
      have q3 := fgL_l (w 73) (w 71) (w 72) (w 17 75).toNat
      have q4 := byL_l (w 71) (w 72) (w 17 75).toNat
      unfold ouU
      by_cases e3 : k = 3
      · rw [e3, upl_e, upl_n (by omega), upl_n (by omega), List.length_append]; rw [e3] at q1; omega
      rw [upl_n e3]
      by_cases e2 : k = 2
      · rw [e2, upl_e, upl_n (by omega), List.length_append]; rw [e2] at q1; omega
      rw [upl_n e2]
      by_cases e1 : k = 1
      · rw [e1, upl_e, List.length_append]; rw [e1] at q1; omega
      rw [upl_n e1]; omega
    · intro w4 S4 F4
      exact f1 w4 _ z0 (Or.inl ⟨q, rfl⟩) S4 F4
  · rw [q]
    repeat (first | refine J_andL (by first | omega | (constructor <;> omega)) ?_ | refine J_andR (by first | omega | (constructor <;> omega)) ?_ | refine J_posL (by first | omega | (constructor <;> omega)) ?_ | refine J_negL (by first | omega | (constructor <;> omega)) ?_ | refine J_posR (by first | omega | (constructor <;> omega)) ?_ | refine J_negR (by first | omega | (constructor <;> omega)) ?_)
    have e79 : ∀ i, 0 ≤ i → i < w1 17 76 → 0 ≤ w1 79 i ∧ w1 79 i ≤ 4 := by
      intro i a b
      rw [fe F01 _ _ (by omega)] at b
      rw [fe F01 _ _ (by omega)]
      have := (PT.1 i.toNat (by omega)).1.2.2.2.2.1
      rw [show ((i.toNat : Nat) : Int) = i by omega] at this
      rw [this]; exact scl_r _
    refine m_part4 (S1 4 (by omega) (by omega)) (by rw [fe F01 _ _ (by omega)]; omega) e79 (by have := r1 4 (by omega) (by omega); omega) ?_
    intro w2 o2 o3 M2 F2
    rw [fe F01 17 76 (by omega), enc_t (w1 := w1) (w := w) _ (fun a j x y => fe F01 _ _ (by omega))] at M2
    have S2 : TSM (paU w (upl L 0 (f2 (w 17 73)))) w2 := by
      have z := TSM_s (k := 4) S1 (by omega) M2 F2
      exact z
    have F02 := Fz_tr F01 (ms_tn F2)
    obtain ⟨v, hv, ev⟩ := m_hasCode (m := m) (w := w2) (c := w 17 76) (by omega) (fe F02 _ _ (by omega))
    rw [show w2 75 = w 75 from funext fun j => fe F02 _ _ (by omega)] at hv
    refine J_impR (fun Q hq => blk (md := true) [20, 56, 135, 167, 226, 295] 99 GM FM rfl k424 hq) ?_
    simp -implicitDefEqProofs only [r_iconst, r_bipush, r_sipush, r_ldc, r_ldc_w, r_lconst, r_ldc2_w, r_aconst_null, r_iload, r_iload_n, r_lload, r_lload_n, r_aload, r_aload_n, r_istore, r_istore_n, r_lstore, r_lstore_n, r_astore, r_astore_n, r_iinc, r_iadd, r_iaddW, r_isub, r_isubW, r_imul, r_imulW, r_ladd, r_laddW, r_lsub, r_lsubW, r_lmul, r_lmulW, r_iand, r_ior, r_ishl, r_ishr, r_iushr, r_land, r_lor, r_lshl, r_lshr, r_lushr, r_idiv, r_irem, r_ldiv, r_lrem, r_lcmp, r_ineg, r_i2l, r_l2i, r_i2b, r_i2s, r_i2c, r_dup, r_pop, r_dup_x1, r_dup_x2, r_dup2, r_dup2L, r_icmp_eq, r_icmp_ne, r_icmp_lt, r_icmp_ge, r_icmp_gt, r_icmp_le, r_if_eq, r_if_ne, r_if_lt, r_if_ge, r_if_gt, r_if_le, r_acmp_eq, r_acmp_ne, r_ifnull, r_ifnonnull, r_goto, r_nop, r_tsw, r_lsw, r_getfield, r_getfinal, r_putfield, r_getstaticL, r_getstaticR, r_iaload, r_baload, r_saload, r_laload, r_aaload, r_aaloadM, r_iastore, r_bastore, r_zastore, r_sastore, r_lastore, r_aastore, r_alen, r_new, r_newarray, r_anewarray, r_invV, r_invI, r_objI, r_invS, r_acp, r_ireturn, r_zreturn, r_lreturn, r_return, r_areturn, r_athrow, ↓e_pI, ↓e_pL, ↓e_pR, ↓e_lg0, ↓e_lg1, ↓e_tk0, ↓e_tkI0, ↓e_tkI1, ↓e_tkI2, ↓e_tkI3, ↓e_tkI4, ↓e_tkL, ↓e_tkR0_0, ↓e_tkR0_1, ↓e_tkR1_0, ↓e_tkR1_1, ↓e_tkR2_0, ↓e_tkR2_1, ↓e_tkR3_0, ↓e_tkR3_1, ↓e_tkR4_0, ↓e_tkR4_1, ↓e_tkR5_0, ↓e_tkR5_1, ↓e_tkR6_0, ↓e_tkR6_1, ↓e_tkR7_0, ↓e_tkR7_1, ↓e_tkR8_0, ↓e_tkR8_1, ↓e_tkR9_0, ↓e_tkR9_1, ↓e_tkR10_0, ↓e_tkR10_1, ↓e_tkR11_0, ↓e_tkR11_1, ↓e_tkR12_0, ↓e_tkR12_1, ↓e_tkR13_0, ↓e_tkR13_1, ↓e_tkR14_0, ↓e_tkR14_1, ↓e_tkR15_0, ↓e_tkR15_1, ↓e_tkR16_0, ↓e_tkR16_1, ↓e_tkR17_0, ↓e_tkR17_1, ↓e_tkR39_0, ↓e_tkR39_1, ↓e_tkR40_0, ↓e_tkR40_1, ↓e_tkR41_0, ↓e_tkR41_1, ↓e_tkR42_0, ↓e_tkR42_1, ↓e_tkR43_0, ↓e_tkR43_1, ↓e_tkR44_0, ↓e_tkR44_1, ↓e_tkR45_0, ↓e_tkR45_1, ↓e_tkR46_0, ↓e_tkR46_1, ↓e_tkR47_0, ↓e_tkR47_1, ↓e_tkR48_0, ↓e_tkR48_1, ↓e_pv0, ↓e_pv1, ↓e_pv2, ↓e_pv3, ↓e_pv5, ↓e_pvR, ↓e_tsw0, ↓e_tsw1, ↓e_lsw0, ↓e_lsw1, e_kq100, e_kq0, e_kq3, e_kq5, e_kqR0, e_kqR1, e_kqR2, e_kqR3, e_kqR4, e_kqR5, e_kqR6, e_kqR7, e_kqR8, e_kqR9, e_kqR10, e_kqR11, e_kqR12, e_kqR13, e_kqR14, e_kqR15, e_kqR16, e_kqR17, e_kqR39, e_kqR40, e_kqR41, e_kqR42, e_kqR43, e_kqR44, e_kqR45, e_kqR46, e_kqR47, e_kqR48, e_st0I, e_st0R, e_st0L, e_st1N, e_st1I, e_st1L, e_st1R, e_st2, e_wd0, e_wdI, e_wdL, e_wdR, e_c1I, e_c1R, e_gv0, e_gv1, e_gv2, e_gv3, e_gv4, e_gv5, e_gvR0, e_gvR1, e_gvR2, e_gvR3, e_gvR4, e_gvR5, e_gvR6, e_gvR7, e_gvR8, e_gvR9, e_gvR10, e_gvR11, e_gvR12, e_gvR13, e_gvR14, e_gvR15, e_gvR16, e_gvR17, e_gvR39, e_gvR40, e_gvR41, e_gvR42, e_gvR43, e_gvR44, e_gvR45, e_gvR46, e_gvR47, e_gvR48, e_kX0, e_kX1, e_kVv, e_kVx, e_kIv, e_kIx, e_kLv, e_kLx, e_kRv, e_kRx, e_thr, e_lk1, e_ic0, e_ic1, e_jm, st_ap, clr_ap, e_lceq, e_lclt, e_lcgt, nn, ↓reduceIte, Nat.reduceDiv, Nat.reduceMod, Nat.reduceMul, Nat.reduceAdd, Nat.reduceEqDiff, Nat.reduceLeDiff, Int.reduceNatCast, Int.cast_ofNat_Int, Int.reduceSub, Int.reduceMul, Int.reduceNeg, Int.reduceAdd, Int.reduceLE, Int.reduceLT, Int.reduceEq, Int.reduceNe, true_and, and_true, true_or, and_self, ne_eq, not_false_eq_true, Bool.false_eq_true, reduceCtorEq, rd_l1, rd_l2, rd_l3, rd_l4, rd_l5, rd_l6, rd_l7, rd_l8, rd_l9, SB, rd_ge, i2b_2, false_and, and_false, not_true_eq_false, l424_0, l424_20, l424_54, l424_56, l424_86, l424_87, l424_109, l424_110, l424_126, l424_135, l424_167, l424_185, l424_191, l424_212, l424_218, l424_224, l424_226, l424_257, l424_263, l424_284, l424_295, l424_321, s424_0, s424_20, s424_54, s424_56, s424_86, s424_87, s424_109, s424_110, s424_126, s424_135, s424_167, s424_185, s424_191, s424_212, s424_218, s424_224, s424_226, s424_257, s424_263, s424_284, s424_295, s424_321, zM_18, zM_19, zM_20, zM_21, zM_22, zM_23, zM_24, zM_25, zM_26, zM_27, zM_28, zM_29, zM_30, zM_31, zM_32, zM_33, zM_34, zM_35, zM_36, zM_37, zM_38, zM_39, zM_40, zM_41, zM_42, zM_43, zM_44, zM_45, zM_46, zM_47, zM_48, zM_49, zM_50, zM_51, zM_52, zM_53, zM_54, zM_55, zM_56, zM_57, zM_58, zM_59, zM_60, zM_61, zM_62, zM_63, zM_64, zM_65, zM_66, zM_67, zM_68, zM_69, zM_70, zM_71, zM_72, zM_73, zM_74, zM_75, zM_76, zM_77, zM_78, zM_79, zM_80, zM_81, zM_82, zM_83, zM_84, zM_85, zM_86, zM_87, zM_88, zM_89, zM_90, zM_91, zM_92, zM_93, zM_94, zM_95, zM_96, zM_97, zM_98, zM_99, zM_100, zM_101, zM_102, zM_103, zM_104, zM_105, zM_106, zM_107, zM_108, zM_109, zM_110, zM_111, zM_112, zM_113, zM_114, zM_115, zM_116, zM_117, zM_118, zM_119]
    rw [fe F01 17 76 (by omega), fe F02 17 76 (by omega), fe F02 17 73 (by omega), q]
    repeat (first | refine J_andL (by first | omega | (constructor <;> omega)) ?_ | refine J_andR (by first | omega | (constructor <;> omega)) ?_ | refine J_posL (by first | omega | (constructor <;> omega)) ?_ | refine J_negL (by first | omega | (constructor <;> omega)) ?_ | refine J_posR (by first | omega | (constructor <;> omega)) ?_ | refine J_negR (by first | omega | (constructor <;> omega)) ?_)
    refine J_RI ev ?_
    have r2 : ∀ k, 0 ≤ k → k < 7 → ((paU w (upl L 0 (f2 (w 17 73))) k).length : Int) ≤ 700000 := by
      intro k a b
      have q1 := r1 k a b
      have q2 := encP_l (w := w) (w 17 76).toNat (fun i a b => by
        have := e79 i a (by rw [fe F01 _ _ (by omega)]; omega)
        rw [fe F01 _ _ (by omega)] at this
        exact this)
      unfold paU
      by_cases e4 : k = 4
      · rw [e4, upl_e, List.length_append]; rw [e4] at q1; omega
      rw [upl_n e4]; omega
    rcases hv with ⟨e, hc⟩ | ⟨e, hc⟩ <;> subst e
    · refine J_negR (by omega) ?_
      refine m_kd (h := h) (w0 := w) S2 F02 CD r2 ?_
      intro w4 S4 F4
      exact f1 w4 _ z0 (Or.inr (Or.inl ⟨q, hc, rfl⟩)) S4 F4
    · refine J_posR rfl ?_
      exact f1 w2 _ z0 (Or.inr (Or.inr ⟨q, hc, rfl⟩)) S2 F02
end
