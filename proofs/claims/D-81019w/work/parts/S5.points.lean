set_option maxRecDepth 100000
/-- ends, marks and bytes of the points -/
def enL (E : Int → Int) : Nat → List Int
  | 0 => []
  | k + 1 => enL E k ++ q25 (E k - (if k = 0 then -1 else E ((k : Int) - 1)))
def fgL (on X Y : Int → Int) : Nat → List Int
  | 0 => []
  | k + 1 => fgL on X Y k ++ [i2b ((if on k = 0 then 128 else 0) + ptF (abv (wyk X k)) (abv (wyk Y k)) (sgv (wyk X k)) (sgv (wyk Y k)))]
def byL (X Y : Int → Int) : Nat → List Int
  | 0 => []
  | k + 1 => byL X Y k ++ ptB (abv (wyk X k)) (abv (wyk Y k))
theorem ptF_r {a b sx sy : Int} (a0 : 0 ≤ a ∧ a ≤ 70000) (b0 : 0 ≤ b ∧ b ≤ 70000) (s1 : 0 ≤ sx ∧ sx ≤ 1) (s2 : 0 ≤ sy ∧ sy ≤ 1) : 0 ≤ ptF a b sx sy ∧ ptF a b sx sy ≤ 127 := by
  unfold ptF
  by_cases q1 : a = 0 ∧ b < 1280
  · rw [if_pos q1]; omega
  rw [if_neg q1]
  by_cases q2 : b = 0 ∧ a < 1280
  · rw [if_pos q2]; omega
  rw [if_neg q2]
  by_cases q3 : a < 65 ∧ b < 65
  · rw [if_pos q3]; omega
  rw [if_neg q3]
  by_cases q4 : a < 769 ∧ b < 769
  · rw [if_pos q4]; omega
  rw [if_neg q4]
  by_cases q5 : a < 4096 ∧ b < 4096
  · rw [if_pos q5]; omega
  rw [if_neg q5]; omega
section
variable {A B : Qt → Prop} {Φ : Out → Int → Mem → Out → Int → Mem → Prop} {KL KM : Qt → Qt} {n m : Int} {h w : Mem}
def s1M (a j : Int) : Prop := msF 1 a j
/-- ends of the contours, by the model (424@20) -/
theorem m_ends {c : Int} {L : List Int} {o3 : Option V} (c0 : 0 ≤ c ∧ c ≤ 32) (e74 : w 17 74 = c) (E0 : ∀ i, 0 ≤ i → i < c → (if i = 0 then -1 else w 70 (i - 1)) ≤ w 70 i ∧ w 70 i ≤ 255) (M : MGS w 1 L) (r : (L.length : Int) ≤ 800000)
    (fin : ∀ (w1 : Mem) (x : Int), MGS w1 1 (L ++ enL (w 70) c.toNat) → Fz s1M w w1 → J2 A (fun Q => T_at gM 424 20 [some (vR 33 17), some (vI x), some (vI c), o3] [] m w1 (KM Q)) Φ) :
    J2 A (fun Q => T_at gM 424 20 [some (vR 33 17), some (vI (-1)), some (vI 0), o3] [] m w (KM Q)) Φ := by
  have len : ∀ k : Nat, (∀ x : Int, (q25 x).length ≤ 3) → (enL (w 70) k).length ≤ 3 * k := by
    intro k q
    induction k with
    | zero => exact Nat.le_refl 0
    | succ k ih => rw [enL, List.length_append]; have := q (w 70 k - (if k = 0 then -1 else w 70 ((k : Int) - 1))); omega
  have q3 : ∀ x : Int, (q25 x).length ≤ 3 := fun x => by
    unfold q25
    by_cases a1 : x < 253
    · rw [if_pos a1]; simp
    rw [if_neg a1]
    by_cases a2 : x < 506
    · rw [if_pos a2]; simp
    rw [if_neg a2]
    by_cases a3 : x < 762
    · rw [if_pos a3]; simp
    rw [if_neg a3]; simp
  refine lp (F := fun i => ∀ w1 : Mem, MGS w1 1 (L ++ enL (w 70) i.toNat) → Fz s1M w w1 → J2 A (fun Q => T_at gM 424 20 [some (vR 33 17), some (vI (if i = 0 then -1 else w 70 (i - 1))), some (vI i), o3] [] m w1 (KM Q)) Φ) (b := 0) (n := c) c0.1 ?_ ?_ w (by rw [show (0 : Int).toNat = 0 from rfl, enL, List.append_nil]; exact M) Fz_0
  · intro i i0 i1 ih w1 M1 F1
    have ei := E0 i i0 i1
    have pv : -1 ≤ (if i = 0 then -1 else w 70 (i - 1)) := by
      by_cases q : i = 0
      · rw [if_pos q]; omega
      · rw [if_neg q]
        have key := lp (F := fun z => ∀ d : Int, d = i - 1 - z → -1 ≤ w 70 d) (b := 0) (n := i - 1) (by omega) (fun z z0 z1 hz d hd => by
          have h1 := hz (d - 1) (by omega)
          have h2 := E0 d (by omega) (by omega)
          rw [if_neg (by omega)] at h2
          omega) (fun d hd => by have h2 := E0 d (by omega) (by omega); rw [if_pos (by omega)] at h2; omega)
        exact key (i - 1) (by omega)
    have ln := len i.toNat q3
    obtain ⟨w2, e2, M2, F2⟩ := m_426 (m := m) (k := 1) (v := w 70 i - (if i = 0 then -1 else w 70 (i - 1))) (by omega) (by omega) M1 (by rw [List.length_append]; omega)
    have s70 : ∀ w' : Mem, Fz s1M w w' → ∀ j, w' 70 j = w 70 j := fun w' F j => F _ _ (by unfold s1M msF; omega)
    have ih' := ih w2 (by
      rw [show (i + 1).toNat = i.toNat + 1 by omega, enL, show ((i.toNat : Nat) : Int) = i by omega, ← List.append_assoc]
      by_cases q : i = 0
      · rw [if_pos (show i.toNat = 0 by omega)]; rw [if_pos q] at M2; exact M2
      · rw [if_neg (show ¬ i.toNat = 0 by omega)]; rw [if_neg q] at M2; exact M2) (Fz_tr F1 (Fz_mo F2 (fun a j q => q)))
    rw [if_neg (show ¬ i + 1 = 0 by omega), show i + 1 - 1 = i by omega] at ih'
    refine J_impR (fun Q hq => blk (md := true) [20, 56, 135, 167, 226, 295] 99 GM FM rfl k424 hq) ?_
    simp -implicitDefEqProofs only [r_iconst, r_bipush, r_sipush, r_ldc, r_ldc_w, r_lconst, r_ldc2_w, r_aconst_null, r_iload, r_iload_n, r_lload, r_lload_n, r_aload, r_aload_n, r_istore, r_istore_n, r_lstore, r_lstore_n, r_astore, r_astore_n, r_iinc, r_iadd, r_iaddW, r_isub, r_isubW, r_imul, r_imulW, r_ladd, r_laddW, r_lsub, r_lsubW, r_lmul, r_lmulW, r_iand, r_ior, r_ishl, r_ishr, r_iushr, r_land, r_lor, r_lshl, r_lshr, r_lushr, r_idiv, r_irem, r_ldiv, r_lrem, r_lcmp, r_ineg, r_i2l, r_l2i, r_i2b, r_i2s, r_i2c, r_dup, r_pop, r_dup_x1, r_dup_x2, r_dup2, r_dup2L, r_icmp_eq, r_icmp_ne, r_icmp_lt, r_icmp_ge, r_icmp_gt, r_icmp_le, r_if_eq, r_if_ne, r_if_lt, r_if_ge, r_if_gt, r_if_le, r_acmp_eq, r_acmp_ne, r_ifnull, r_ifnonnull, r_goto, r_nop, r_tsw, r_lsw, r_getfield, r_getfinal, r_putfield, r_getstaticL, r_getstaticR, r_iaload, r_baload, r_saload, r_laload, r_aaload, r_aaloadM, r_iastore, r_bastore, r_zastore, r_sastore, r_lastore, r_aastore, r_alen, r_new, r_newarray, r_anewarray, r_invV, r_invI, r_objI, r_invS, r_acp, r_ireturn, r_zreturn, r_lreturn, r_return, r_areturn, r_athrow, ↓e_pI, ↓e_pL, ↓e_pR, ↓e_lg0, ↓e_lg1, ↓e_tk0, ↓e_tkI0, ↓e_tkI1, ↓e_tkI2, ↓e_tkI3, ↓e_tkI4, ↓e_tkL, ↓e_tkR0_0, ↓e_tkR0_1, ↓e_tkR1_0, ↓e_tkR1_1, ↓e_tkR2_0, ↓e_tkR2_1, ↓e_tkR3_0, ↓e_tkR3_1, ↓e_tkR4_0, ↓e_tkR4_1, ↓e_tkR5_0, ↓e_tkR5_1, ↓e_tkR6_0, ↓e_tkR6_1, ↓e_tkR7_0, ↓e_tkR7_1, ↓e_tkR8_0, ↓e_tkR8_1, ↓e_tkR9_0, ↓e_tkR9_1, ↓e_tkR10_0, ↓e_tkR10_1, ↓e_tkR11_0, ↓e_tkR11_1, ↓e_tkR12_0, ↓e_tkR12_1, ↓e_tkR13_0, ↓e_tkR13_1, ↓e_tkR14_0, ↓e_tkR14_1, ↓e_tkR15_0, ↓e_tkR15_1, ↓e_tkR16_0, ↓e_tkR16_1, ↓e_tkR17_0, ↓e_tkR17_1, ↓e_tkR39_0, ↓e_tkR39_1, ↓e_tkR40_0, ↓e_tkR40_1, ↓e_tkR41_0, ↓e_tkR41_1, ↓e_tkR42_0, ↓e_tkR42_1, ↓e_tkR43_0, ↓e_tkR43_1, ↓e_tkR44_0, ↓e_tkR44_1, ↓e_tkR45_0, ↓e_tkR45_1, ↓e_tkR46_0, ↓e_tkR46_1, ↓e_tkR47_0, ↓e_tkR47_1, ↓e_tkR48_0, ↓e_tkR48_1, ↓e_pv0, ↓e_pv1, ↓e_pv2, ↓e_pv3, ↓e_pv5, ↓e_pvR, ↓e_tsw0, ↓e_tsw1, ↓e_lsw0, ↓e_lsw1, e_kq100, e_kq0, e_kq3, e_kq5, e_kqR0, e_kqR1, e_kqR2, e_kqR3, e_kqR4, e_kqR5, e_kqR6, e_kqR7, e_kqR8, e_kqR9, e_kqR10, e_kqR11, e_kqR12, e_kqR13, e_kqR14, e_kqR15, e_kqR16, e_kqR17, e_kqR39, e_kqR40, e_kqR41, e_kqR42, e_kqR43, e_kqR44, e_kqR45, e_kqR46, e_kqR47, e_kqR48, e_st0I, e_st0R, e_st0L, e_st1N, e_st1I, e_st1L, e_st1R, e_st2, e_wd0, e_wdI, e_wdL, e_wdR, e_c1I, e_c1R, e_gv0, e_gv1, e_gv2, e_gv3, e_gv4, e_gv5, e_gvR0, e_gvR1, e_gvR2, e_gvR3, e_gvR4, e_gvR5, e_gvR6, e_gvR7, e_gvR8, e_gvR9, e_gvR10, e_gvR11, e_gvR12, e_gvR13, e_gvR14, e_gvR15, e_gvR16, e_gvR17, e_gvR39, e_gvR40, e_gvR41, e_gvR42, e_gvR43, e_gvR44, e_gvR45, e_gvR46, e_gvR47, e_gvR48, e_kX0, e_kX1, e_kVv, e_kVx, e_kIv, e_kIx, e_kLv, e_kLx, e_kRv, e_kRx, e_thr, e_lk1, e_ic0, e_ic1, e_jm, st_ap, clr_ap, e_lceq, e_lclt, e_lcgt, nn, ↓reduceIte, Nat.reduceDiv, Nat.reduceMod, Nat.reduceMul, Nat.reduceAdd, Nat.reduceEqDiff, Nat.reduceLeDiff, Int.reduceNatCast, Int.cast_ofNat_Int, Int.reduceSub, Int.reduceMul, Int.reduceNeg, Int.reduceAdd, Int.reduceLE, Int.reduceLT, Int.reduceEq, Int.reduceNe, true_and, and_true, true_or, and_self, ne_eq, not_false_eq_true, Bool.false_eq_true, reduceCtorEq, rd_l1, rd_l2, rd_l3, rd_l4, rd_l5, rd_l6, rd_l7, rd_l8, rd_l9, SB, rd_ge, i2b_2, false_and, and_false, not_true_eq_false, l424_0, l424_20, l424_54, l424_56, l424_86, l424_87, l424_109, l424_110, l424_126, l424_135, l424_167, l424_185, l424_191, l424_212, l424_218, l424_224, l424_226, l424_257, l424_263, l424_284, l424_295, l424_321, s424_0, s424_20, s424_54, s424_56, s424_86, s424_87, s424_109, s424_110, s424_126, s424_135, s424_167, s424_185, s424_191, s424_212, s424_218, s424_224, s424_226, s424_257, s424_263, s424_284, s424_295, s424_321, zM_18, zM_19, zM_20, zM_21, zM_22, zM_23, zM_24, zM_25, zM_26, zM_27, zM_28, zM_29, zM_30, zM_31, zM_32, zM_33, zM_34, zM_35, zM_36, zM_37, zM_38, zM_39, zM_40, zM_41, zM_42, zM_43, zM_44, zM_45, zM_46, zM_47, zM_48, zM_49, zM_50, zM_51, zM_52, zM_53, zM_54, zM_55, zM_56, zM_57, zM_58, zM_59, zM_60, zM_61, zM_62, zM_63, zM_64, zM_65, zM_66, zM_67, zM_68, zM_69, zM_70, zM_71, zM_72, zM_73, zM_74, zM_75, zM_76, zM_77, zM_78, zM_79, zM_80, zM_81, zM_82, zM_83, zM_84, zM_85, zM_86, zM_87, zM_88, zM_89, zM_90, zM_91, zM_92, zM_93, zM_94, zM_95, zM_96, zM_97, zM_98, zM_99, zM_100, zM_101, zM_102, zM_103, zM_104, zM_105, zM_106, zM_107, zM_108, zM_109, zM_110, zM_111, zM_112, zM_113, zM_114, zM_115, zM_116, zM_117, zM_118, zM_119]
    rw [s70 w1 F1, show w1 17 74 = c by rw [F1 _ _ (by unfold s1M msF; omega)]; exact e74]
    refine J_posR i1 (J_andR i0 (J_andR (by omega) (J_andR (by unfold i32; omega) (J_RV e2 ?_))))
    rw [s70 w2 (Fz_tr F1 (Fz_mo F2 (fun a j q => q)))]
    refine J_andR i0 (J_andR (by omega) (J_andR (by unfold i32; omega) ?_))
    exact ih'
  · intro w1 M1 F1
    exact fin w1 _ M1 F1
end
