set_option maxRecDepth 100000
theorem bodE_l {L : List Int} {g : Int → Int → Int} {z : Int → Int} : ∀ k : Nat, (∀ i : Int, 0 ≤ i → i < k → 0 ≤ z i ∧ z i ≤ 12000) → ((bodE L g z k).length : Int) ≤ L.length + 12003 * k := by
  intro k
  induction k with
  | zero => intro _; rw [bodE]; omega
  | succ k ih =>
    intro q
    have a := ih (fun i x y => q i x (by omega))
    have b := q k (by omega) (by omega)
    have c : pdn (bodE L g z k ++ slc (g k) 0 (z k).toNat) ≤ 3 := by unfold pdn; omega
    rw [bodE, List.length_append, List.length_append, slc_l, List.length_replicate]
    omega
theorem bodE_c {L : List Int} {g g' : Int → Int → Int} {z : Int → Int} : ∀ k : Nat, (∀ i : Int, 0 ≤ i → i < k → ∀ j, 0 ≤ j → j < z i → g i j = g' i j) → bodE L g z k = bodE L g' z k := by
  intro k
  induction k with
  | zero => intro _; rfl
  | succ k ih =>
    intro q
    rw [bodE, bodE, ih (fun i x y => q i x (by omega)), slc_c (g := g k) (g' := g' k) (fun i hi => q k (by omega) (by omega) _ (by omega) (by omega))]
section
variable {A B : Qt → Prop} {Φ : Out → Int → Mem → Out → Int → Mem → Prop} {KL KM : Qt → Qt} {n m : Int} {h w : Mem}
/-- the bodies of a font, by the model (337@59); r: the whole is at most 16000 -/
theorem m_bod {p c x2 : Int} {t b z l : Int → Int} {L : List Int} (p0 : 0 ≤ p ∧ p < 4) (F : FTM p c t b z l w) (by1 : ∀ i, 0 ≤ i → i < c → ∀ j, 0 ≤ j → j < z i → -128 ≤ w 52 (12000 * b i + j) ∧ w 52 (12000 * b i + j) ≤ 127) (O : OM w L) (r : ∀ i : Nat, (i : Int) ≤ c → ((bodE L (fun i j => w 52 (12000 * b i + j)) z i).length : Int) ≤ 100000)
    (fin : ∀ w1 : Mem, OM w1 (bodE L (fun i j => w 52 (12000 * b i + j)) z c.toNat) → Fz omM w w1 → J2 A (fun Q => T_at gM 337 59 [some (vR 33 17), some (vI p), some (vI x2), some (vI c), none, none, none, none] [] m w1 (KM Q)) Φ) :
    J2 A (fun Q => T_at gM 337 59 [some (vR 33 17), some (vI p), some (vI x2), some (vI 0), none, none, none, none] [] m w (KM Q)) Φ := by
  have fe : ∀ {w1 : Mem}, Fz omM w w1 → ∀ a j, a ≠ 17 → a ≠ 67 → w1 a j = w a j := fun G a j x y => G a j (by unfold omM; omega)
  have FT : ∀ {w1 : Mem}, Fz omM w w1 → FTM p c t b z l w1 := fun G => FTM_t F (fun a j x y z => fe G a j (by omega) z)
  have cr := F.2.1
  refine lp (F := fun i => ∀ w3 : Mem, OM w3 (bodE L (fun i j => w 52 (12000 * b i + j)) z i.toNat) → Fz omM w w3 → J2 A (fun Q => T_at gM 337 59 [some (vR 33 17), some (vI p), some (vI x2), some (vI i), none, none, none, none] [] m w3 (KM Q)) Φ) (b := 0) (n := c) cr.1 ?_ ?_ w O Fz_0
  · intro i i0 i1 ih w3 O3 G3
    obtain ⟨d1, d2, d3⟩ := FT G3
    obtain ⟨e1, e2, e3, e4, e5, e6⟩ := d3 i i0 i1
    have rl := r i.toNat (by omega)
    obtain ⟨w4, v4, O4, G4⟩ := m_sayB (m := m) (w := w3) (b := b i) (g := fun j => w 52 (12000 * b i + j)) e3 (by rw [e4]; exact e5) (fun j j0 j1 => ⟨fe G3 _ _ (by omega) (by omega), by rw [e4] at j1; exact by1 i i0 i1 j j0 j1⟩) O3 (by rw [e4]; omega)
    rw [e4] at O4
    refine J_impR (fun Q hq => blk (md := true) [59, 165] 99 GM FM rfl k337 hq) ?_
    simp -implicitDefEqProofs only [r_iconst, r_bipush, r_sipush, r_ldc, r_ldc_w, r_lconst, r_ldc2_w, r_aconst_null, r_iload, r_iload_n, r_lload, r_lload_n, r_aload, r_aload_n, r_istore, r_istore_n, r_lstore, r_lstore_n, r_astore, r_astore_n, r_iinc, r_iadd, r_iaddW, r_isub, r_isubW, r_imul, r_imulW, r_ladd, r_laddW, r_lsub, r_lsubW, r_lmul, r_lmulW, r_iand, r_ior, r_ishl, r_ishr, r_iushr, r_land, r_lor, r_lshl, r_lshr, r_lushr, r_idiv, r_irem, r_ldiv, r_lrem, r_lcmp, r_ineg, r_i2l, r_l2i, r_i2b, r_i2s, r_i2c, r_dup, r_pop, r_dup_x1, r_dup_x2, r_dup2, r_dup2L, r_icmp_eq, r_icmp_ne, r_icmp_lt, r_icmp_ge, r_icmp_gt, r_icmp_le, r_if_eq, r_if_ne, r_if_lt, r_if_ge, r_if_gt, r_if_le, r_acmp_eq, r_acmp_ne, r_ifnull, r_ifnonnull, r_goto, r_nop, r_tsw, r_lsw, r_getfield, r_getfinal, r_putfield, r_getstaticL, r_getstaticR, r_iaload, r_baload, r_saload, r_laload, r_aaload, r_aaloadM, r_iastore, r_bastore, r_zastore, r_sastore, r_lastore, r_aastore, r_alen, r_new, r_newarray, r_anewarray, r_invV, r_invI, r_objI, r_invS, r_acp, r_ireturn, r_zreturn, r_lreturn, r_return, r_areturn, r_athrow, ↓e_pI, ↓e_pL, ↓e_pR, ↓e_lg0, ↓e_lg1, ↓e_tk0, ↓e_tkI0, ↓e_tkI1, ↓e_tkI2, ↓e_tkI3, ↓e_tkI4, ↓e_tkL, ↓e_tkR0_0, ↓e_tkR0_1, ↓e_tkR1_0, ↓e_tkR1_1, ↓e_tkR2_0, ↓e_tkR2_1, ↓e_tkR3_0, ↓e_tkR3_1, ↓e_tkR4_0, ↓e_tkR4_1, ↓e_tkR5_0, ↓e_tkR5_1, ↓e_tkR6_0, ↓e_tkR6_1, ↓e_tkR7_0, ↓e_tkR7_1, ↓e_tkR8_0, ↓e_tkR8_1, ↓e_tkR9_0, ↓e_tkR9_1, ↓e_tkR10_0, ↓e_tkR10_1, ↓e_tkR11_0, ↓e_tkR11_1, ↓e_tkR12_0, ↓e_tkR12_1, ↓e_tkR13_0, ↓e_tkR13_1, ↓e_tkR14_0, ↓e_tkR14_1, ↓e_tkR15_0, ↓e_tkR15_1, ↓e_tkR16_0, ↓e_tkR16_1, ↓e_tkR17_0, ↓e_tkR17_1, ↓e_tkR39_0, ↓e_tkR39_1, ↓e_tkR40_0, ↓e_tkR40_1, ↓e_tkR41_0, ↓e_tkR41_1, ↓e_tkR42_0, ↓e_tkR42_1, ↓e_tkR43_0, ↓e_tkR43_1, ↓e_tkR44_0, ↓e_tkR44_1, ↓e_tkR45_0, ↓e_tkR45_1, ↓e_tkR46_0, ↓e_tkR46_1, ↓e_tkR47_0, ↓e_tkR47_1, ↓e_tkR48_0, ↓e_tkR48_1, ↓e_pv0, ↓e_pv1, ↓e_pv2, ↓e_pv3, ↓e_pv5, ↓e_pvR, ↓e_tsw0, ↓e_tsw1, ↓e_lsw0, ↓e_lsw1, e_kq100, e_kq0, e_kq3, e_kq5, e_kqR0, e_kqR1, e_kqR2, e_kqR3, e_kqR4, e_kqR5, e_kqR6, e_kqR7, e_kqR8, e_kqR9, e_kqR10, e_kqR11, e_kqR12, e_kqR13, e_kqR14, e_kqR15, e_kqR16, e_kqR17, e_kqR39, e_kqR40, e_kqR41, e_kqR42, e_kqR43, e_kqR44, e_kqR45, e_kqR46, e_kqR47, e_kqR48, e_st0I, e_st0R, e_st0L, e_st1N, e_st1I, e_st1L, e_st1R, e_st2, e_wd0, e_wdI, e_wdL, e_wdR, e_c1I, e_c1R, e_gv0, e_gv1, e_gv2, e_gv3, e_gv4, e_gv5, e_gvR0, e_gvR1, e_gvR2, e_gvR3, e_gvR4, e_gvR5, e_gvR6, e_gvR7, e_gvR8, e_gvR9, e_gvR10, e_gvR11, e_gvR12, e_gvR13, e_gvR14, e_gvR15, e_gvR16, e_gvR17, e_gvR39, e_gvR40, e_gvR41, e_gvR42, e_gvR43, e_gvR44, e_gvR45, e_gvR46, e_gvR47, e_gvR48, e_kX0, e_kX1, e_kVv, e_kVx, e_kIv, e_kIx, e_kLv, e_kLx, e_kRv, e_kRx, e_thr, e_lk1, e_ic0, e_ic1, e_jm, st_ap, clr_ap, e_lceq, e_lclt, e_lcgt, nn, ↓reduceIte, Nat.reduceDiv, Nat.reduceMod, Nat.reduceMul, Nat.reduceAdd, Nat.reduceEqDiff, Nat.reduceLeDiff, Int.reduceNatCast, Int.cast_ofNat_Int, Int.reduceSub, Int.reduceMul, Int.reduceNeg, Int.reduceAdd, Int.reduceLE, Int.reduceLT, Int.reduceEq, Int.reduceNe, true_and, and_true, true_or, and_self, ne_eq, not_false_eq_true, Bool.false_eq_true, reduceCtorEq, rd_l1, rd_l2, rd_l3, rd_l4, rd_l5, rd_l6, rd_l7, rd_l8, rd_l9, SB, rd_ge, i2b_2, false_and, and_false, not_true_eq_false, l337_0, l337_14, l337_16, l337_27, l337_47, l337_59, l337_90, l337_114, l337_118, l337_127, l337_165, l337_206, s337_0, s337_14, s337_16, s337_27, s337_47, s337_59, s337_90, s337_114, s337_118, s337_127, s337_165, s337_206, zM_18, zM_19, zM_20, zM_21, zM_22, zM_23, zM_24, zM_25, zM_26, zM_27, zM_28, zM_29, zM_30, zM_31, zM_32, zM_33, zM_34, zM_35, zM_36, zM_37, zM_38, zM_39, zM_40, zM_41, zM_42, zM_43, zM_44, zM_45, zM_46, zM_47, zM_48, zM_49, zM_50, zM_51, zM_52, zM_53, zM_54, zM_55, zM_56, zM_57, zM_58, zM_59, zM_60, zM_61, zM_62, zM_63, zM_64, zM_65, zM_66, zM_67, zM_68, zM_69, zM_70, zM_71, zM_72, zM_73, zM_74, zM_75, zM_76, zM_77, zM_78, zM_79, zM_80, zM_81, zM_82, zM_83, zM_84, zM_85, zM_86, zM_87, zM_88, zM_89, zM_90, zM_91, zM_92, zM_93, zM_94, zM_95, zM_96, zM_97, zM_98, zM_99, zM_100, zM_101, zM_102, zM_103, zM_104, zM_105, zM_106, zM_107, zM_108, zM_109, zM_110, zM_111, zM_112, zM_113, zM_114, zM_115, zM_116, zM_117, zM_118, zM_119]
    rw [d1, e2]
    repeat (first | refine J_andL (by first | omega | (constructor <;> omega)) ?_ | refine J_andR (by first | omega | (constructor <;> omega)) ?_ | refine J_posL (by first | omega | (constructor <;> omega)) ?_ | refine J_negL (by first | omega | (constructor <;> omega)) ?_ | refine J_posR (by first | omega | (constructor <;> omega)) ?_ | refine J_negR (by first | omega | (constructor <;> omega)) ?_)
    refine J_RV v4 ?_
    repeat (first | refine J_andL (by first | omega | (constructor <;> omega)) ?_ | refine J_andR (by first | omega | (constructor <;> omega)) ?_ | refine J_posL (by first | omega | (constructor <;> omega)) ?_ | refine J_negL (by first | omega | (constructor <;> omega)) ?_ | refine J_posR (by first | omega | (constructor <;> omega)) ?_ | refine J_negR (by first | omega | (constructor <;> omega)) ?_)
    refine ih w4 ?_ (Fz_tr G3 G4)
    rw [show (i + 1).toNat = i.toNat + 1 by omega, bodE, show ((i.toNat : Nat) : Int) = i by omega]
    exact O4
  · exact fin
end
