set_option maxRecDepth 100000
section
variable {A B : Qt → Prop} {Φ : Out → Int → Mem → Out → Int → Mem → Prop} {KL KM : Qt → Qt} {n m : Int} {h w : Mem}
/-- where a glyph begins (382) -/
theorem m_382 {p g kl bl N : Int} (p0 : 0 ≤ p ∧ p < 4) (v0 : 1 ≤ w 17 70 ∧ w 17 70 ≤ 64) (v2 : w 17 72 = 0 ∨ w 17 72 = 1) (Vl : VB p 1819239265 7 kl bl h w) (sl : h (28 + 2 * kl) 1 = (w 17 70 + 1) * (if w 17 72 = 0 then 2 else 4)) (L : LOK (w 17 70) (w 17 72) N (h (29 + 2 * kl))) (N0 : N ≤ 12000) (g0 : 0 ≤ g ∧ g ≤ w 17 70) : Ev gM 382 [vR 33 17, vI p, vI g] m w (.inl (some (vI (lov (w 17 72) (h (29 + 2 * kl)) g)))) m w := by
  obtain ⟨⟨kl0, bl0, sl0, sl1, sl2⟩, el7, fbl, -⟩ := id Vl
  have rN : (w 17 72 = 0 ∧ h (28 + 2 * kl) 1 = (w 17 70 + 1) * 2 ∨ w 17 72 ≠ 0 ∧ h (28 + 2 * kl) 1 = (w 17 70 + 1) * 4) := by
    by_cases q : w 17 72 = 0
    · rw [if_pos q] at sl; exact Or.inl ⟨q, sl⟩
    · rw [if_neg q] at sl; exact Or.inr ⟨q, sl⟩
  have la := LOK_m L (w 17 70 - g).toNat g g0.1 (by omega)
  have ra := lov_r (w 17 72) (h (29 + 2 * kl)) g
  have ew := wr_id (x := lov (w 17 72) (h (29 + 2 * kl)) g) (by constructor <;> omega)
  intro Q hQ
  refine T_go (md := true) [some (vR 33 17), some (vI p), some (vI g)] [] 99 (by decide) rfl (Nat.le_of_ble_eq_true rfl) GM FM rfl k382 ?_
  simp -implicitDefEqProofs only [r_iconst, r_bipush, r_sipush, r_ldc, r_ldc_w, r_lconst, r_ldc2_w, r_aconst_null, r_iload, r_iload_n, r_lload, r_lload_n, r_aload, r_aload_n, r_istore, r_istore_n, r_lstore, r_lstore_n, r_astore, r_astore_n, r_iinc, r_iadd, r_iaddW, r_isub, r_isubW, r_imul, r_imulW, r_ladd, r_laddW, r_lsub, r_lsubW, r_lmul, r_lmulW, r_iand, r_ior, r_ishl, r_ishr, r_iushr, r_land, r_lor, r_lshl, r_lshr, r_lushr, r_idiv, r_irem, r_ldiv, r_lrem, r_lcmp, r_ineg, r_i2l, r_l2i, r_i2b, r_i2s, r_i2c, r_dup, r_pop, r_dup_x1, r_dup_x2, r_dup2, r_dup2L, r_icmp_eq, r_icmp_ne, r_icmp_lt, r_icmp_ge, r_icmp_gt, r_icmp_le, r_if_eq, r_if_ne, r_if_lt, r_if_ge, r_if_gt, r_if_le, r_acmp_eq, r_acmp_ne, r_ifnull, r_ifnonnull, r_goto, r_nop, r_tsw, r_lsw, r_getfield, r_getfinal, r_putfield, r_getstaticL, r_getstaticR, r_iaload, r_baload, r_saload, r_laload, r_aaload, r_aaloadM, r_iastore, r_bastore, r_zastore, r_sastore, r_lastore, r_aastore, r_alen, r_new, r_newarray, r_anewarray, r_invV, r_invI, r_objI, r_invS, r_acp, r_ireturn, r_zreturn, r_lreturn, r_return, r_areturn, r_athrow, ↓e_pI, ↓e_pL, ↓e_pR, ↓e_lg0, ↓e_lg1, ↓e_tk0, ↓e_tkI0, ↓e_tkI1, ↓e_tkI2, ↓e_tkI3, ↓e_tkI4, ↓e_tkL, ↓e_tkR0_0, ↓e_tkR0_1, ↓e_tkR1_0, ↓e_tkR1_1, ↓e_tkR2_0, ↓e_tkR2_1, ↓e_tkR3_0, ↓e_tkR3_1, ↓e_tkR4_0, ↓e_tkR4_1, ↓e_tkR5_0, ↓e_tkR5_1, ↓e_tkR6_0, ↓e_tkR6_1, ↓e_tkR7_0, ↓e_tkR7_1, ↓e_tkR8_0, ↓e_tkR8_1, ↓e_tkR9_0, ↓e_tkR9_1, ↓e_tkR10_0, ↓e_tkR10_1, ↓e_tkR11_0, ↓e_tkR11_1, ↓e_tkR12_0, ↓e_tkR12_1, ↓e_tkR13_0, ↓e_tkR13_1, ↓e_tkR14_0, ↓e_tkR14_1, ↓e_tkR15_0, ↓e_tkR15_1, ↓e_tkR16_0, ↓e_tkR16_1, ↓e_tkR17_0, ↓e_tkR17_1, ↓e_tkR39_0, ↓e_tkR39_1, ↓e_tkR40_0, ↓e_tkR40_1, ↓e_tkR41_0, ↓e_tkR41_1, ↓e_tkR42_0, ↓e_tkR42_1, ↓e_tkR43_0, ↓e_tkR43_1, ↓e_tkR44_0, ↓e_tkR44_1, ↓e_tkR45_0, ↓e_tkR45_1, ↓e_tkR46_0, ↓e_tkR46_1, ↓e_tkR47_0, ↓e_tkR47_1, ↓e_tkR48_0, ↓e_tkR48_1, ↓e_pv0, ↓e_pv1, ↓e_pv2, ↓e_pv3, ↓e_pv5, ↓e_pvR, ↓e_tsw0, ↓e_tsw1, ↓e_lsw0, ↓e_lsw1, e_kq100, e_kq0, e_kq3, e_kq5, e_kqR0, e_kqR1, e_kqR2, e_kqR3, e_kqR4, e_kqR5, e_kqR6, e_kqR7, e_kqR8, e_kqR9, e_kqR10, e_kqR11, e_kqR12, e_kqR13, e_kqR14, e_kqR15, e_kqR16, e_kqR17, e_kqR39, e_kqR40, e_kqR41, e_kqR42, e_kqR43, e_kqR44, e_kqR45, e_kqR46, e_kqR47, e_kqR48, e_st0I, e_st0R, e_st0L, e_st1N, e_st1I, e_st1L, e_st1R, e_st2, e_wd0, e_wdI, e_wdL, e_wdR, e_c1I, e_c1R, e_gv0, e_gv1, e_gv2, e_gv3, e_gv4, e_gv5, e_gvR0, e_gvR1, e_gvR2, e_gvR3, e_gvR4, e_gvR5, e_gvR6, e_gvR7, e_gvR8, e_gvR9, e_gvR10, e_gvR11, e_gvR12, e_gvR13, e_gvR14, e_gvR15, e_gvR16, e_gvR17, e_gvR39, e_gvR40, e_gvR41, e_gvR42, e_gvR43, e_gvR44, e_gvR45, e_gvR46, e_gvR47, e_gvR48, e_kX0, e_kX1, e_kVv, e_kVx, e_kIv, e_kIx, e_kLv, e_kLx, e_kRv, e_kRx, e_thr, e_lk1, e_ic0, e_ic1, e_jm, st_ap, clr_ap, e_lceq, e_lclt, e_lcgt, nn, ↓reduceIte, Nat.reduceDiv, Nat.reduceMod, Nat.reduceMul, Nat.reduceAdd, Nat.reduceEqDiff, Nat.reduceLeDiff, Int.reduceNatCast, Int.cast_ofNat_Int, Int.reduceSub, Int.reduceMul, Int.reduceNeg, Int.reduceAdd, Int.reduceLE, Int.reduceLT, Int.reduceEq, Int.reduceNe, true_and, and_true, true_or, and_self, ne_eq, not_false_eq_true, Bool.false_eq_true, reduceCtorEq, rd_l1, rd_l2, rd_l3, rd_l4, rd_l5, rd_l6, rd_l7, rd_l8, rd_l9, SB, rd_ge, i2b_2, false_and, and_false, not_true_eq_false, l382_0, s382_0, zM_18, zM_19, zM_20, zM_21, zM_22, zM_23, zM_24, zM_25, zM_26, zM_27, zM_28, zM_29, zM_30, zM_31, zM_32, zM_33, zM_34, zM_35, zM_36, zM_37, zM_38, zM_39, zM_40, zM_41, zM_42, zM_43, zM_44, zM_45, zM_46, zM_47, zM_48, zM_49, zM_50, zM_51, zM_52, zM_53, zM_54, zM_55, zM_56, zM_57, zM_58, zM_59, zM_60, zM_61, zM_62, zM_63, zM_64, zM_65, zM_66, zM_67, zM_68, zM_69, zM_70, zM_71, zM_72, zM_73, zM_74, zM_75, zM_76, zM_77, zM_78, zM_79, zM_80, zM_81, zM_82, zM_83, zM_84, zM_85, zM_86, zM_87, zM_88, zM_89, zM_90, zM_91, zM_92, zM_93, zM_94, zM_95, zM_96, zM_97, zM_98, zM_99, zM_100, zM_101, zM_102, zM_103, zM_104, zM_105, zM_106, zM_107, zM_108, zM_109, zM_110, zM_111, zM_112, zM_113, zM_114, zM_115, zM_116, zM_117, zM_118, zM_119]
  refine m_bof p0 fbl _ ?_
  refine m_loca (N := h (28 + 2 * kl) 1) (f := h (29 + 2 * kl)) bl0 g0.1 (by omega) (fun j j0 j1 => (sl2 j j0 j1).1.symm) _ ?_
  simp only [e_kLv]
  rw [ew]
  exact hQ
/-- from the laying on -/
theorem p_layD {p g x3 x4 nnn kl bl kg bg to fr : Int} (RS : RST h w) (Rb : RB h w) (p0 : 0 ≤ p ∧ p < 4) (hp : w 55 p = 1) (V : VWG p 1 h w) (Vl : VB p 1819239265 7 kl bl h w) (Vg : VB p 1735162214 8 kg bg h w) (sl : h (28 + 2 * kl) 1 = (w 17 70 + 1) * (if w 17 72 = 0 then 2 else 4)) (L : LOK (w 17 70) (w 17 72) (h (28 + 2 * kg) 1) (h (29 + 2 * kl))) (no : h 17 18 = 0) (one : ¬ (0 < h 459 3 ∧ 0 < h 475 3)) (g0 : 0 ≤ g) (efr : fr = lov (w 17 72) (h (29 + 2 * kl)) g) (n64 : nnn ≤ 64) (cs : (x4 = 0 ∧ g < w 17 70 ∧ nnn = w 17 70 ∧ to = lov (w 17 72) (h (29 + 2 * kl)) (g + 1)) ∨ (x4 = 1 ∧ g = w 17 70 ∧ nnn = w 17 70 + 1 ∧ to = lov (w 17 72) (h (29 + 2 * kl)) g))
    (fin : ∀ (h2 w2 : Mem) (z : Int), RST h2 w2 → RB h2 w2 → Fz slC h h2 → Fz slM w w2 → J2 (fun Q => Q (.inl (some (vI z))) n h2) (fun Q => Q (.inl (some (vI z))) m w2) Φ) :
    J2 (fun Q => T gC 473 [vR 5 24] n h (kV (thr Q) fun n h => T gC 474 [vR 5 24] n h (kR 2 (thr Q) fun a_4 n h => T gC 474 [vR 5 24] n h (kR 2 (thr Q) fun a_5 n h => T gC 178 [vR 2 a_5, vI 0, vI (h 365 2)] n h (kV (thr Q) fun n h => T_at gC 98 109 [some (vR 1 17), some (vI p), some (vI g), some (vI x3), some (vI nnn), some (vR 2 a_4), some (vR 2 a_5), some (vI 0), none, none, none] [] n h Q)))))
      (fun Q => T gM 404 [vR 33 17] m w (kV (thr Q) fun n h => T gM 406 [vR 33 17] n (st h 17 96 0) (kV (thr Q) fun n h_6 => 0 ≤ bg ∧ bg < 120 ∧ i32 (to - fr) ∧ i32 (h_6 53 bg - (to - fr)) ∧ i32 (h_6 53 bg - (to - fr) + h_6 17 96) ∧ if 12000 < h_6 53 bg - (to - fr) + h_6 17 96 then Q (.inl (some (vI (-4)))) n h_6 else T gM 313 [vR 33 17] n h_6 (kV (thr Q) fun n h_7 => T gM 346 [vR 33 17, vI p, vL 1819239265] n h_7 (kI (thr Q) fun a_5 n h_8 => T gM 316 [vR 33 17, vI (h_6 53 bg - (to - fr) + h_6 17 96)] n h_8 (kI (thr Q) fun a_6 n h_9 => T_at gM 402 196 [some (vR 33 17), some (vI p), some (vI g), some (vI x3), some (vI x4), some (vI nnn), some (vI bg), some (vI fr), some (vI to), some (vI (h_6 53 bg - (to - fr) + h_6 17 96)), some (vI a_5), some (vI (h_8 17 72)), some (vI a_6), some (vI 0), none, none, none] [] n h_9 Q)))))) Φ := by
  subst efr
  obtain ⟨β, R0⟩ := id RS
  obtain ⟨dl, bbl, -⟩ := VB_d R0 p0 hp Vl
  obtain ⟨dg, bbg, -⟩ := VB_d R0 p0 hp Vg
  obtain ⟨v0, v1, v2, -⟩ := id V
  obtain ⟨⟨kl0, bl0, ls1, ls2, ls3⟩, el7, -⟩ := id Vl
  obtain ⟨⟨kg0, bg0, gs1, gs2, gs3⟩, eg8, -⟩ := id Vg
  have LV : LVW kl kg (w 17 70) (w 17 72) (h (28 + 2 * kl) 1) (h (28 + 2 * kg) 1) (h (29 + 2 * kl)) (h (29 + 2 * kg)) h := ⟨⟨kl0, kg0⟩, ⟨el7, eg8, v2.1, by omega⟩, by omega, sl, gs1, L, fun _ _ _ => rfl, fun _ _ _ => rfl⟩
  have r1 := lok_r L v0.2.1 (k := g) g0 (by omega)
  have ft : lov (w 17 72) (h (29 + 2 * kl)) g ≤ to ∧ to ≤ h (28 + 2 * kg) 1 := by
    rcases cs with ⟨q1, q2, q3, q4⟩ | ⟨q1, q2, q3, q4⟩
    · have r2 := lok_r L v0.2.1 (k := g + 1) (by omega) (by omega)
      have := r1.2.2 q2
      omega
    · omega
  refine p_layB R0 LV dl dg Rb no one g0 (by omega) n64 ?_
  intro hk h1 w1 k1 k2 R Y
  simp only [e_kVv]
  have Y' : LYD k1 k2 (w 17 70) (w 17 72) (h (28 + 2 * kg) 1) g x4 nnn (lov (w 17 72) (h (29 + 2 * kl)) g) to (h (29 + 2 * kl)) (h (29 + 2 * kg)) R h w hk h1 w1 := by
    rcases cs with ⟨q1, q2, q3, q4⟩ | ⟨q1, q2, q3, q4⟩
    · rw [if_pos q2, if_pos q2, ← q4, ← q1] at Y; exact Y
    · rw [if_neg (by omega), if_neg (by omega)] at Y; rw [q4, q1]; exact Y
  clear Y
  obtain ⟨⟨kp, Fk, F1, W1⟩, -, -, -, O, yR, R4, Rb1⟩ := id Y'
  rw [show w1 53 bg = h (28 + 2 * kg) 1 by rw [bnM_s W1 _ _ (by omega) (by omega)]; exact gs2, O.1]
  refine J_andR bg0.1 (J_andR bg0.2 (J_andR (by unfold i32; omega) (J_andR (by unfold i32; omega) (J_andR (by unfold i32; omega) ?_))))
  by_cases q : 12000 < h (28 + 2 * kg) 1 - (to - lov (w 17 72) (h (29 + 2 * kl)) g) + R.length
  · refine J_posR q ?_
    refine c_layF RS Y' p0 (by omega) q ?_
    intro h2 R2 Rb2 F2
    exact fin _ _ _ R2 Rb2 F2 (Fz_mo W1 (fun _ _ q => Or.inr q))
  · refine J_negR q ?_
    exact p_layC RS hp V Vl Vg sl L Y' p0 g0 n64 rfl cs rfl (by omega) fin
/-- LAY (98 / 402) -/
theorem p_lay {p g : Int} (R : RST h w) (Rb : RB h w) : J2 (fun Q => T gC 98 [vR 1 17, vI p, vI g] n h Q) (fun Q => T gM 402 [vR 33 17, vI p, vI g] m w Q) (PSY n m h w) := by
  refine J_impL (fun Q hq => T_go (md := true) [some (vR 1 17), some (vI p), some (vI g), none, none, none, none, none, none, none, none] [109] 99 (by decide) rfl (Nat.le_of_ble_eq_true rfl) GC FC rfl k98 hq) ?_
  refine J_impR (fun Q hq => T_go (md := true) [some (vR 33 17), some (vI p), some (vI g), none, none, none, none, none, none, none, none, none, none, none, none, none, none] [196, 240, 283, 374] 99 (by decide) rfl (Nat.le_of_ble_eq_true rfl) GM FM rfl k402 hq) ?_
  simp -implicitDefEqProofs only [r_iconst, r_bipush, r_sipush, r_ldc, r_ldc_w, r_lconst, r_ldc2_w, r_aconst_null, r_iload, r_iload_n, r_lload, r_lload_n, r_aload, r_aload_n, r_istore, r_istore_n, r_lstore, r_lstore_n, r_astore, r_astore_n, r_iinc, r_iadd, r_iaddW, r_isub, r_isubW, r_imul, r_imulW, r_ladd, r_laddW, r_lsub, r_lsubW, r_lmul, r_lmulW, r_iand, r_ior, r_ishl, r_ishr, r_iushr, r_land, r_lor, r_lshl, r_lshr, r_lushr, r_idiv, r_irem, r_ldiv, r_lrem, r_lcmp, r_ineg, r_i2l, r_l2i, r_i2b, r_i2s, r_i2c, r_dup, r_pop, r_dup_x1, r_dup_x2, r_dup2, r_dup2L, r_icmp_eq, r_icmp_ne, r_icmp_lt, r_icmp_ge, r_icmp_gt, r_icmp_le, r_if_eq, r_if_ne, r_if_lt, r_if_ge, r_if_gt, r_if_le, r_acmp_eq, r_acmp_ne, r_ifnull, r_ifnonnull, r_goto, r_nop, r_tsw, r_lsw, r_getfield, r_getfinal, r_putfield, r_getstaticL, r_getstaticR, r_iaload, r_baload, r_saload, r_laload, r_aaload, r_aaloadM, r_iastore, r_bastore, r_zastore, r_sastore, r_lastore, r_aastore, r_alen, r_new, r_newarray, r_anewarray, r_invV, r_invI, r_objI, r_invS, r_acp, r_ireturn, r_zreturn, r_lreturn, r_return, r_areturn, r_athrow, ↓e_pI, ↓e_pL, ↓e_pR, ↓e_lg0, ↓e_lg1, ↓e_tk0, ↓e_tkI0, ↓e_tkI1, ↓e_tkI2, ↓e_tkI3, ↓e_tkI4, ↓e_tkL, ↓e_tkR0_0, ↓e_tkR0_1, ↓e_tkR1_0, ↓e_tkR1_1, ↓e_tkR2_0, ↓e_tkR2_1, ↓e_tkR3_0, ↓e_tkR3_1, ↓e_tkR4_0, ↓e_tkR4_1, ↓e_tkR5_0, ↓e_tkR5_1, ↓e_tkR6_0, ↓e_tkR6_1, ↓e_tkR7_0, ↓e_tkR7_1, ↓e_tkR8_0, ↓e_tkR8_1, ↓e_tkR9_0, ↓e_tkR9_1, ↓e_tkR10_0, ↓e_tkR10_1, ↓e_tkR11_0, ↓e_tkR11_1, ↓e_tkR12_0, ↓e_tkR12_1, ↓e_tkR13_0, ↓e_tkR13_1, ↓e_tkR14_0, ↓e_tkR14_1, ↓e_tkR15_0, ↓e_tkR15_1, ↓e_tkR16_0, ↓e_tkR16_1, ↓e_tkR17_0, ↓e_tkR17_1, ↓e_tkR39_0, ↓e_tkR39_1, ↓e_tkR40_0, ↓e_tkR40_1, ↓e_tkR41_0, ↓e_tkR41_1, ↓e_tkR42_0, ↓e_tkR42_1, ↓e_tkR43_0, ↓e_tkR43_1, ↓e_tkR44_0, ↓e_tkR44_1, ↓e_tkR45_0, ↓e_tkR45_1, ↓e_tkR46_0, ↓e_tkR46_1, ↓e_tkR47_0, ↓e_tkR47_1, ↓e_tkR48_0, ↓e_tkR48_1, ↓e_pv0, ↓e_pv1, ↓e_pv2, ↓e_pv3, ↓e_pv5, ↓e_pvR, ↓e_tsw0, ↓e_tsw1, ↓e_lsw0, ↓e_lsw1, e_kq100, e_kq0, e_kq3, e_kq5, e_kqR0, e_kqR1, e_kqR2, e_kqR3, e_kqR4, e_kqR5, e_kqR6, e_kqR7, e_kqR8, e_kqR9, e_kqR10, e_kqR11, e_kqR12, e_kqR13, e_kqR14, e_kqR15, e_kqR16, e_kqR17, e_kqR39, e_kqR40, e_kqR41, e_kqR42, e_kqR43, e_kqR44, e_kqR45, e_kqR46, e_kqR47, e_kqR48, e_st0I, e_st0R, e_st0L, e_st1N, e_st1I, e_st1L, e_st1R, e_st2, e_wd0, e_wdI, e_wdL, e_wdR, e_c1I, e_c1R, e_gv0, e_gv1, e_gv2, e_gv3, e_gv4, e_gv5, e_gvR0, e_gvR1, e_gvR2, e_gvR3, e_gvR4, e_gvR5, e_gvR6, e_gvR7, e_gvR8, e_gvR9, e_gvR10, e_gvR11, e_gvR12, e_gvR13, e_gvR14, e_gvR15, e_gvR16, e_gvR17, e_gvR39, e_gvR40, e_gvR41, e_gvR42, e_gvR43, e_gvR44, e_gvR45, e_gvR46, e_gvR47, e_gvR48, e_kX0, e_kX1, e_kVv, e_kVx, e_kIv, e_kIx, e_kLv, e_kLx, e_kRv, e_kRx, e_thr, e_lk1, e_ic0, e_ic1, e_jm, st_ap, clr_ap, e_lceq, e_lclt, e_lcgt, nn, ↓reduceIte, Nat.reduceDiv, Nat.reduceMod, Nat.reduceMul, Nat.reduceAdd, Nat.reduceEqDiff, Nat.reduceLeDiff, Int.reduceNatCast, Int.cast_ofNat_Int, Int.reduceSub, Int.reduceMul, Int.reduceNeg, Int.reduceAdd, Int.reduceLE, Int.reduceLT, Int.reduceEq, Int.reduceNe, true_and, and_true, true_or, and_self, ne_eq, not_false_eq_true, Bool.false_eq_true, reduceCtorEq, rd_l1, rd_l2, rd_l3, rd_l4, rd_l5, rd_l6, rd_l7, rd_l8, rd_l9, SB, rd_ge, i2b_2, false_and, and_false, not_true_eq_false, l98_0, l98_12, l98_31, l98_58, l98_68, l98_109, l98_131, l98_173, l98_196, l98_245, l98_246, l98_349, l98_350, l98_352, l98_376, l98_378, s98_0, s98_12, s98_31, s98_58, s98_68, s98_109, s98_131, s98_173, s98_196, s98_245, s98_246, s98_349, s98_350, s98_352, s98_376, s98_378, l402_0, l402_12, l402_24, l402_26, l402_38, l402_39, l402_55, l402_59, l402_73, l402_83, l402_111, l402_119, l402_165, l402_196, l402_237, l402_240, l402_279, l402_283, l402_340, l402_364, l402_365, l402_374, l402_400, l402_411, l402_434, l402_454, l402_548, l402_560, l402_562, s402_0, s402_12, s402_24, s402_26, s402_38, s402_39, s402_55, s402_59, s402_73, s402_83, s402_111, s402_119, s402_165, s402_196, s402_237, s402_240, s402_279, s402_283, s402_340, s402_364, s402_365, s402_374, s402_400, s402_411, s402_434, s402_454, s402_548, s402_560, s402_562, zC_18, zC_20, zC_21, zC_22, zC_23, zC_25, zC_26, zC_253, zC_254, zC_256, zC_257, zC_259, zC_260, zC_262, zC_263, zC_265, zC_266, zC_268, zC_269, zC_271, zC_272, zC_274, zC_275, zC_278, zC_279, zC_280, zC_281, zC_282, zC_284, zC_285, zC_287, zC_288, zC_290, zC_291, zC_293, zC_294, zC_296, zC_297, zC_299, zC_300, zC_302, zC_303, zC_304, zC_305, zC_306, zC_307, zC_308, zC_309, zC_310, zC_311, zC_312, zC_315, zC_316, zC_317, zC_319, zC_320, zC_321, zC_323, zC_324, zC_325, zC_327, zC_328, zC_329, zC_331, zC_332, zC_333, zC_335, zC_336, zC_337, zC_339, zC_340, zC_341, zC_343, zC_344, zC_345, zC_347, zC_348, zC_349, zC_350, zC_351, zC_352, zC_353, zC_354, zC_355, zC_356, zC_357, zC_358, zC_359, zC_361, zC_362, zC_363, zC_364, zC_367, zC_368, zC_369, zC_370, zC_371, zC_372, zC_373, zC_374, zC_375, zC_376, zC_378, zC_380, zC_381, zC_383, zC_384, zC_386, zC_387, zC_389, zC_390, zC_391, zC_392, zC_393, zC_394, zC_395, zC_396, zC_397, zC_398, zC_400, zC_402, zC_403, zC_405, zC_407, zC_409, zC_411, zC_413, zC_415, zC_417, zC_420, zC_421, zC_422, zC_423, zC_424, zC_425, zC_427, zC_429, zC_431, zC_433, zC_436, zC_437, zC_438, zC_439, zC_440, zC_441, zC_442, zC_443, zC_444, zC_445, zC_447, zC_448, zC_450, zC_451, zC_453, zC_454, zC_455, zC_456, zC_457, zC_458, zC_460, zC_461, zC_462, zC_463, zC_464, zC_465, zC_466, zC_467, zC_468, zC_469, zC_471, zC_473, zC_474, zC_476, zC_477, zC_478, zC_479, zC_480, zC_481, zC_482, zC_483, zC_484, zC_485, zC_487, zC_489, zC_490, zC_491, zC_493, zC_495, zC_497, zC_499, zM_18, zM_19, zM_20, zM_21, zM_22, zM_23, zM_24, zM_25, zM_26, zM_27, zM_28, zM_29, zM_30, zM_31, zM_32, zM_33, zM_34, zM_35, zM_36, zM_37, zM_38, zM_39, zM_40, zM_41, zM_42, zM_43, zM_44, zM_45, zM_46, zM_47, zM_48, zM_49, zM_50, zM_51, zM_52, zM_53, zM_54, zM_55, zM_56, zM_57, zM_58, zM_59, zM_60, zM_61, zM_62, zM_63, zM_64, zM_65, zM_66, zM_67, zM_68, zM_69, zM_70, zM_71, zM_72, zM_73, zM_74, zM_75, zM_76, zM_77, zM_78, zM_79, zM_80, zM_81, zM_82, zM_83, zM_84, zM_85, zM_86, zM_87, zM_88, zM_89, zM_90, zM_91, zM_92, zM_93, zM_94, zM_95, zM_96, zM_97, zM_98, zM_99, zM_100, zM_101, zM_102, zM_103, zM_104, zM_105, zM_106, zM_107, zM_108, zM_109, zM_110, zM_111, zM_112, zM_113, zM_114, zM_115, zM_116, zM_117, zM_118, zM_119]
  refine p_noG R (fun h0 w0 gp hp V F W => ?_) (fun h1 w1 y y0 F W => ?_)
  rotate_left
  · simp only [e_kIv]
    refine J_posL y0 (J_posR y0 ?_)
    exact J_end ⟨⟨_, rfl, rfl⟩, rfl, rfl, RST_f R (fun a j _ _ => F a j (by unfold vwC; omega)) (fun a j _ _ => W a j (by unfold vgM; omega)), RB_t Rb (fun a j x => F a j (by unfold vwC; omega)) (fun a j x => W a j (by unfold vgM; omega)), Fz_mo F (fun _ _ q => Or.inl (Or.inr q)), Fz_mo W (fun _ _ q => Or.inl (Or.inr q))⟩
  simp only [e_kIv]
  have R0 : RST h0 w0 := RST_f R (fun a j _ _ => F a j (by unfold vwC; omega)) (fun a j _ _ => W a j (by unfold vgM; omega))
  have Rb0 : RB h0 w0 := RB_t Rb (fun a j x => F a j (by unfold vwC; omega)) (fun a j x => W a j (by unfold vgM; omega))
  have hp0 : w0 55 p = 1 := by rw [W _ _ (by unfold vgM; omega)]; exact hp
  have FF : Fz slC h h0 := Fz_mo F (fun _ _ q => Or.inl (Or.inr q))
  have WW : Fz slM w w0 := Fz_mo W (fun _ _ q => Or.inl (Or.inr q))
  have en : ∀ z, J2 (fun Q => Q (.inl (some (vI z))) n h0) (fun Q => Q (.inl (some (vI z))) m w0) (PSY n m h w) := fun z => J_end ⟨⟨_, rfl, rfl⟩, rfl, rfl, R0, Rb0, FF, WW⟩
  have ed : ∀ (h2 w2 : Mem) (z : Int), RST h2 w2 → RB h2 w2 → Fz slC h0 h2 → Fz slM w0 w2 → J2 (fun Q => Q (.inl (some (vI z))) n h2) (fun Q => Q (.inl (some (vI z))) m w2) (PSY n m h w) := fun h2 w2 z R2 Rb2 F2 W2 => J_end ⟨⟨_, rfl, rfl⟩, rfl, rfl, R2, Rb2, Fz_tr FF F2, Fz_tr WW W2⟩
  obtain ⟨v0, v1, v2, -, -, -, -, kl, bl, kg, bg, Vl, Vg, sl, L, -⟩ := id V
  rw [v0.1]
  repeat (first | refine J_andL (by first | omega | (constructor <;> omega)) ?_ | refine J_andR (by first | omega | (constructor <;> omega)) ?_ | refine J_posL (by first | omega | (constructor <;> omega)) ?_ | refine J_negL (by first | omega | (constructor <;> omega)) ?_ | refine J_posR (by first | omega | (constructor <;> omega)) ?_ | refine J_negR (by first | omega | (constructor <;> omega)) ?_)
  refine J_LI (c_isIn _ _ _) ?_
  by_cases qg : 0 ≤ g ∧ g ≤ w0 17 70
  rotate_left
  · rw [bz_f qg]
    by_cases q : g < 0
    · repeat (first | refine J_andL (by first | omega | (constructor <;> omega)) ?_ | refine J_andR (by first | omega | (constructor <;> omega)) ?_ | refine J_posL (by first | omega | (constructor <;> omega)) ?_ | refine J_negL (by first | omega | (constructor <;> omega)) ?_ | refine J_posR (by first | omega | (constructor <;> omega)) ?_ | refine J_negR (by first | omega | (constructor <;> omega)) ?_)
      exact en _
    · repeat (first | refine J_andL (by first | omega | (constructor <;> omega)) ?_ | refine J_andR (by first | omega | (constructor <;> omega)) ?_ | refine J_posL (by first | omega | (constructor <;> omega)) ?_ | refine J_negL (by first | omega | (constructor <;> omega)) ?_ | refine J_posR (by first | omega | (constructor <;> omega)) ?_ | refine J_negR (by first | omega | (constructor <;> omega)) ?_)
      exact en _
  rw [bz_t qg]
  have Ng := Vg.1.2.2.1
  by_cases q : g = w0 17 70
  · refine J_negL (by omega) (J_andL (by unfold i32; omega) (J_negR (by omega) (J_negR (by omega) (J_posR q (J_andR (by unfold i32; omega) ?_)))))
    refine J_LI c_max ?_
    rw [v0.1, if_pos (show w0 17 70 < g + 1 by omega), show g + 1 = w0 17 70 + 1 by omega]
    obtain ⟨v, v01, ec, em, vc⟩ := p_can (n := n) (m := m) (x := w0 17 70 + 1) Rb0
    refine J_LI ec (J_RI em ?_)
    rcases v01 with e | e
    · refine J_posL e (J_posR e ?_)
      exact en _
    refine J_negL (by omega) (J_negR (by omega) ?_)
    by_cases q64 : 64 < w0 17 70 + 1
    · refine J_posL q64 (J_posR q64 ?_)
      exact en _
    refine J_negL q64 (J_negR q64 ?_)
    refine J_RI (m_bof (by omega) Vg.2.2.1) ?_
    refine J_RI (m_382 (by omega) v0.2 (by omega) Vl sl L (by omega) qg) ?_
    exact p_layD R0 Rb0 (by omega) hp0 V Vl Vg sl L (vc e).1 (vc e).2 qg.1 rfl (by omega) (Or.inr ⟨rfl, q, rfl, rfl⟩) ed
  · refine J_negL (by omega) (J_andL (by unfold i32; omega) (J_negR (by omega) (J_negR (by omega) (J_negR q ?_))))
    refine J_LI c_max ?_
    rw [v0.1, if_neg (show ¬ w0 17 70 < g + 1 by omega)]
    obtain ⟨v, v01, ec, em, vc⟩ := p_can (n := n) (m := m) (x := w0 17 70) Rb0
    refine J_LI ec (J_RI em ?_)
    rcases v01 with e | e
    · refine J_posL e (J_posR e ?_)
      exact en _
    refine J_negL (by omega) (J_negR (by omega) ?_)
    refine J_negL (by omega) (J_negR (by omega) ?_)
    refine J_RI (m_bof (by omega) Vg.2.2.1) ?_
    refine J_RI (m_382 (by omega) v0.2 (by omega) Vl sl L (by omega) qg) ?_
    refine J_andR (by unfold i32; omega) ?_
    refine J_RI (m_382 (by omega) v0.2 (by omega) Vl sl L (by omega) (by omega)) ?_
    exact p_layD R0 Rb0 (by omega) hp0 V Vl Vg sl L (vc e).1 (vc e).2 qg.1 rfl (by omega) (Or.inl ⟨rfl, by omega, rfl, rfl⟩) ed
end
