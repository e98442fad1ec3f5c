set_option maxRecDepth 100000
/-- what tellFew needs of a code -/
def FW1 (z X c : Int) (h w : Mem) : Prop := (h X 4 = 0 ∨ h X 4 = 1) ∧ ∃ v, (0 ≤ v ∧ v < z) ∧ (h X 4 = 0 → v = 0) ∧ (h X 4 = 1 → h 355 0 = v) ∧ (0 < w 43 (704 * c + v) ∧ w 44 (704 * c + v) = 0) ∧ ∀ s, 0 ≤ s → s < z → s ≠ v → ¬ 0 < w 43 (704 * c + s)
def FWM (z X c : Int) (h w : Mem) : Prop := (2 ≤ h X 4 ∧ h X 4 ≤ 4) ∧ (∀ s, 0 ≤ s → s < z → ∀ k, 1 ≤ k → ((0 < w 43 (704 * c + s) ∧ w 44 (704 * c + s) = k) ↔ h (X + 2) s = k)) ∧ (∀ s, 0 ≤ s → s < z → ¬ (0 < w 43 (704 * c + s) ∧ w 44 (704 * c + s) = 0)) ∧ (∀ s, 0 ≤ s → s < z → h (X + 2) s ≤ 3) ∧ F4P (fun s => h (X + 2) s) z (h X 4)
theorem RKP_F {z : Nat} {X c lim : Int} {U : Int → Int} {h w : Mem} (R : RKP z X c lim U h w) (u0 : 1 ≤ cti U z ∧ cti U z ≤ 4) (wt : ∀ s : Int, 0 ≤ s → s < z → (0 < w 43 (704 * c + s) ↔ 0 < U s)) : (cti U z = 1 ∧ FW1 z X c h w) ∨ (2 ≤ cti U z ∧ FWM z X c h w) := by
  obtain ⟨W, q, r1, r2, r3, r4, r5, r6, r7⟩ := R
  have W0 := r1.2.2.2.2
  have us : ∀ s : Int, 0 ≤ s → s < z → (0 < w 43 (704 * c + s) ↔ W s ≠ 0) := fun s a b => by rw [wt s a b, ← r2 s a b]; have := W0 s a b; omega
  by_cases u1 : cti U z = 1
  · refine Or.inl ⟨u1, Or.inr (by omega), q 0, (r1.2.1 0 (by omega) (by omega)).1, fun e => by omega, fun e => r4 0 (by omega) (by omega), ⟨?_, ?_⟩, ?_⟩
    · have r := r1.2.1 0 (by omega) (by omega)
      rw [us _ r.1.1 r.1.2]; omega
    · have r := r1.2.1 0 (by omega) (by omega)
      rw [r7 _ r.1.1 r.1.2, if_neg (by omega), (r5 0 (by omega) (by omega)).1]
      unfold lf
      rw [if_pos (by omega)]
    · intro s a b e g
      rw [us s a b] at g
      obtain ⟨i, ir, ie⟩ := r1.2.2.2.1 s a b g
      rw [show i = 0 by omega] at ie
      exact e ie.symm
  · have lv : ∀ s : Int, 0 ≤ s → s < z → (W s = 0 ∧ h (X + 2) s = 0) ∨ (W s ≠ 0 ∧ w 44 (704 * c + s) = h (X + 2) s ∧ 1 ≤ h (X + 2) s ∧ h (X + 2) s ≤ 3) := by
      intro s a b
      by_cases g : W s = 0
      · exact Or.inl ⟨g, r6 s a b g⟩
      · obtain ⟨i, ir, ie⟩ := r1.2.2.2.1 s a b g
        have l := (r5 i ir.1 ir.2).1
        rw [ie] at l
        have p := lf_r r1 ir.1 ir.2
        have e := r7 s a b
        rw [if_neg g] at e
        have p2 := p.2.2.1 (by omega)
        exact Or.inr ⟨g, e, by omega, by omega⟩
    refine Or.inr ⟨by omega, by omega, ?_, ?_, ?_, ?_⟩
    · intro s a b k k1
      rw [us s a b]
      rcases lv s a b with ⟨g, e⟩ | ⟨g, e, _, _⟩
      · rw [e]; omega
      · rw [e]; omega
    · intro s a b
      rw [us s a b]
      rcases lv s a b with ⟨g, e⟩ | ⟨g, e, _, _⟩
      · omega
      · rw [e]; omega
    · intro s a b
      rcases lv s a b with ⟨g, e⟩ | ⟨g, e, _, _⟩ <;> omega
    · intro u4
      rw [r3] at u4
      rw [u4] at r1 r5
      have l4 := lf_4 (W := W) (q := q)
      have t0 := (r5 0 (by omega) (by omega)).1
      have t1 := (r5 1 (by omega) (by omega)).1
      have t2 := (r5 2 (by omega) (by omega)).1
      have t3 := (r5 3 (by omega) (by omega)).1
      have q0 := (r1.2.1 0 (by omega) (by omega)).1
      have q3 := (r1.2.1 3 (by omega) (by omega)).1
      rcases l4 with l4 | l4
      · have no : ∀ s : Int, 0 ≤ s → s < z → h (X + 2) s = 0 ∨ h (X + 2) s = 2 := by
          intro s a b
          by_cases g : W s = 0
          · exact Or.inl (r6 s a b g)
          · obtain ⟨i, ir, ie⟩ := r1.2.2.2.1 s a b g
            have l := (r5 i ir.1 ir.2).1
            rw [ie] at l
            rcases (by omega : i = 0 ∨ i = 1 ∨ i = 2 ∨ i = 3) with e | e | e | e <;> rw [e] at l <;> omega
        constructor
        · rintro ⟨t, r, e⟩
          have e : h (X + 2) t = 3 := e
          have := no t r.1 r.2; omega
        · rintro ⟨t, r, e⟩
          have e : h (X + 2) t = 1 := e
          have := no t r.1 r.2; omega
      · exact ⟨fun _ => ⟨q 3, q3, by show h (X + 2) (q 3) = 1; omega⟩, fun _ => ⟨q 0, q0, by show h (X + 2) (q 0) = 3; omega⟩⟩
section
variable {n m xo X c : Int} {h w : Mem}
theorem p_tellFew {z n' : Int} (xb : xo = 19 ∨ xo = 428) (zc : (gC.1 (xo + 1)).2 = 16000) (W : WR xo h w) (z7 : 2 ≤ z ∧ z ≤ 704) (c0 : 0 ≤ c ∧ c < 8) (X0 : 318 ≤ X ∧ X + 3 < 350) (y2 : z ≤ ((gC.1 (X + 2)).2 : Int)) (ez : h X 3 = z) (H : (n' = 1 ∧ FW1 z X c h w) ∨ (n' = h X 4 ∧ FWM z X c h w)) : J2 (fun Q => T gC 544 [vR 13 313, vR 16 X] n h Q) (fun Q => T gM 304 [vR 33 17, vI c, vI z, vI n'] m w Q) (PW n m xo h w) := by
  have nl := c_nlzw (n := n) (h := h) (v := z - 1) (by omega) (by omega)
  have br := blw_r (v := z - 1) (by omega) (by omega)
  have hu : 0 ≤ h X 4 ∧ h X 4 ≤ 4 ∧ n' = if 1 < h X 4 then h X 4 else 1 := by
    rcases H with ⟨a, b, _⟩ | ⟨a, b, _⟩
    · rw [if_neg (by omega)]; omega
    · rw [if_pos (by omega)]; omega
  refine J_impL (fun Q hq => T_go (md := true) [some (vR 13 313), some (vR 16 X), none, none, none, none, none] [81, 98] 99 (by decide) rfl (Nat.le_of_ble_eq_true rfl) GC FC rfl k544 hq) ?_
  refine J_impR (fun Q hq => T_go (md := true) [some (vR 33 17), some (vI c), some (vI z), some (vI n'), none, none, none, none, none] [36, 46] 99 (by decide) rfl (Nat.le_of_ble_eq_true rfl) GM FM rfl k304 hq) ?_
  simp -implicitDefEqProofs only [r_iconst, r_bipush, r_sipush, r_ldc, r_ldc_w, r_lconst, r_ldc2_w, r_aconst_null, r_iload, r_iload_n, r_lload, r_lload_n, r_aload, r_aload_n, r_istore, r_istore_n, r_lstore, r_lstore_n, r_astore, r_astore_n, r_iinc, r_iadd, r_iaddW, r_isub, r_isubW, r_imul, r_imulW, r_ladd, r_laddW, r_lsub, r_lsubW, r_lmul, r_lmulW, r_iand, r_ior, r_ishl, r_ishr, r_iushr, r_land, r_lor, r_lshl, r_lshr, r_lushr, r_idiv, r_irem, r_ldiv, r_lrem, r_lcmp, r_ineg, r_i2l, r_l2i, r_i2b, r_i2s, r_i2c, r_dup, r_pop, r_dup_x1, r_dup_x2, r_dup2, r_dup2L, r_icmp_eq, r_icmp_ne, r_icmp_lt, r_icmp_ge, r_icmp_gt, r_icmp_le, r_if_eq, r_if_ne, r_if_lt, r_if_ge, r_if_gt, r_if_le, r_acmp_eq, r_acmp_ne, r_ifnull, r_ifnonnull, r_goto, r_nop, r_tsw, r_lsw, r_getfield, r_getfinal, r_putfield, r_getstaticL, r_getstaticR, r_iaload, r_baload, r_saload, r_laload, r_aaload, r_aaloadM, r_iastore, r_bastore, r_zastore, r_sastore, r_lastore, r_aastore, r_alen, r_new, r_newarray, r_anewarray, r_invV, r_invI, r_objI, r_invS, r_acp, r_ireturn, r_zreturn, r_lreturn, r_return, r_areturn, r_athrow, ↓e_pI, ↓e_pL, ↓e_pR, ↓e_lg0, ↓e_lg1, ↓e_tk0, ↓e_tkI0, ↓e_tkI1, ↓e_tkI2, ↓e_tkI3, ↓e_tkI4, ↓e_tkL, ↓e_tkR0_0, ↓e_tkR0_1, ↓e_tkR1_0, ↓e_tkR1_1, ↓e_tkR2_0, ↓e_tkR2_1, ↓e_tkR3_0, ↓e_tkR3_1, ↓e_tkR4_0, ↓e_tkR4_1, ↓e_tkR5_0, ↓e_tkR5_1, ↓e_tkR6_0, ↓e_tkR6_1, ↓e_tkR7_0, ↓e_tkR7_1, ↓e_tkR8_0, ↓e_tkR8_1, ↓e_tkR9_0, ↓e_tkR9_1, ↓e_tkR10_0, ↓e_tkR10_1, ↓e_tkR11_0, ↓e_tkR11_1, ↓e_tkR12_0, ↓e_tkR12_1, ↓e_tkR13_0, ↓e_tkR13_1, ↓e_tkR14_0, ↓e_tkR14_1, ↓e_tkR15_0, ↓e_tkR15_1, ↓e_tkR16_0, ↓e_tkR16_1, ↓e_tkR17_0, ↓e_tkR17_1, ↓e_tkR39_0, ↓e_tkR39_1, ↓e_tkR40_0, ↓e_tkR40_1, ↓e_tkR41_0, ↓e_tkR41_1, ↓e_tkR42_0, ↓e_tkR42_1, ↓e_tkR43_0, ↓e_tkR43_1, ↓e_tkR44_0, ↓e_tkR44_1, ↓e_tkR45_0, ↓e_tkR45_1, ↓e_tkR46_0, ↓e_tkR46_1, ↓e_tkR47_0, ↓e_tkR47_1, ↓e_tkR48_0, ↓e_tkR48_1, ↓e_pv0, ↓e_pv1, ↓e_pv2, ↓e_pv3, ↓e_pv5, ↓e_pvR, ↓e_tsw0, ↓e_tsw1, ↓e_lsw0, ↓e_lsw1, e_kq100, e_kq0, e_kq3, e_kq5, e_kqR0, e_kqR1, e_kqR2, e_kqR3, e_kqR4, e_kqR5, e_kqR6, e_kqR7, e_kqR8, e_kqR9, e_kqR10, e_kqR11, e_kqR12, e_kqR13, e_kqR14, e_kqR15, e_kqR16, e_kqR17, e_kqR39, e_kqR40, e_kqR41, e_kqR42, e_kqR43, e_kqR44, e_kqR45, e_kqR46, e_kqR47, e_kqR48, e_st0I, e_st0R, e_st0L, e_st1N, e_st1I, e_st1L, e_st1R, e_st2, e_wd0, e_wdI, e_wdL, e_wdR, e_c1I, e_c1R, e_gv0, e_gv1, e_gv2, e_gv3, e_gv4, e_gv5, e_gvR0, e_gvR1, e_gvR2, e_gvR3, e_gvR4, e_gvR5, e_gvR6, e_gvR7, e_gvR8, e_gvR9, e_gvR10, e_gvR11, e_gvR12, e_gvR13, e_gvR14, e_gvR15, e_gvR16, e_gvR17, e_gvR39, e_gvR40, e_gvR41, e_gvR42, e_gvR43, e_gvR44, e_gvR45, e_gvR46, e_gvR47, e_gvR48, e_kX0, e_kX1, e_kVv, e_kVx, e_kIv, e_kIx, e_kLv, e_kLx, e_kRv, e_kRx, e_thr, e_lk1, e_ic0, e_ic1, e_jm, st_ap, clr_ap, e_lceq, e_lclt, e_lcgt, nn, ↓reduceIte, Nat.reduceDiv, Nat.reduceMod, Nat.reduceMul, Nat.reduceAdd, Nat.reduceEqDiff, Nat.reduceLeDiff, Int.reduceNatCast, Int.cast_ofNat_Int, Int.reduceSub, Int.reduceMul, Int.reduceNeg, Int.reduceAdd, Int.reduceLE, Int.reduceLT, Int.reduceEq, Int.reduceNe, true_and, and_true, true_or, and_self, ne_eq, not_false_eq_true, Bool.false_eq_true, reduceCtorEq, rd_l1, rd_l2, rd_l3, rd_l4, rd_l5, rd_l6, rd_l7, rd_l8, rd_l9, SB, rd_ge, i2b_2, false_and, and_false, not_true_eq_false, l544_0, l544_65, l544_71, l544_75, l544_81, l544_98, l544_122, l544_144, l544_145, l544_148, l544_154, l544_160, l544_178, l544_179, l544_183, s544_0, s544_65, s544_71, s544_75, s544_81, s544_98, s544_122, s544_144, s544_145, s544_148, s544_154, s544_160, s544_178, s544_179, s544_183, l304_0, l304_36, l304_46, l304_100, l304_102, l304_104, l304_110, l304_116, l304_132, l304_133, l304_137, s304_0, s304_36, s304_46, s304_100, s304_102, s304_104, s304_110, s304_116, s304_132, s304_133, s304_137, zC_18, zC_20, zC_21, zC_22, zC_23, zC_25, zC_26, zC_253, zC_254, zC_256, zC_257, zC_259, zC_260, zC_262, zC_263, zC_265, zC_266, zC_268, zC_269, zC_271, zC_272, zC_274, zC_275, zC_278, zC_279, zC_280, zC_281, zC_282, zC_284, zC_285, zC_287, zC_288, zC_290, zC_291, zC_293, zC_294, zC_296, zC_297, zC_299, zC_300, zC_302, zC_303, zC_304, zC_305, zC_306, zC_307, zC_308, zC_309, zC_310, zC_311, zC_312, zC_315, zC_316, zC_317, zC_319, zC_320, zC_321, zC_323, zC_324, zC_325, zC_327, zC_328, zC_329, zC_331, zC_332, zC_333, zC_335, zC_336, zC_337, zC_339, zC_340, zC_341, zC_343, zC_344, zC_345, zC_347, zC_348, zC_349, zC_350, zC_351, zC_352, zC_353, zC_354, zC_355, zC_356, zC_357, zC_358, zC_359, zC_361, zC_362, zC_363, zC_364, zC_367, zC_368, zC_369, zC_370, zC_371, zC_372, zC_373, zC_374, zC_375, zC_376, zC_378, zC_380, zC_381, zC_383, zC_384, zC_386, zC_387, zC_389, zC_390, zC_391, zC_392, zC_393, zC_394, zC_395, zC_396, zC_397, zC_398, zC_400, zC_402, zC_403, zC_405, zC_407, zC_409, zC_411, zC_413, zC_415, zC_417, zC_420, zC_421, zC_422, zC_423, zC_424, zC_425, zC_427, zC_429, zC_431, zC_433, zC_436, zC_437, zC_438, zC_439, zC_440, zC_441, zC_442, zC_443, zC_444, zC_445, zC_447, zC_448, zC_450, zC_451, zC_453, zC_454, zC_455, zC_456, zC_457, zC_458, zC_460, zC_461, zC_462, zC_463, zC_464, zC_465, zC_466, zC_467, zC_468, zC_469, zC_471, zC_473, zC_474, zC_476, zC_477, zC_478, zC_479, zC_480, zC_481, zC_482, zC_483, zC_484, zC_485, zC_487, zC_489, zC_490, zC_491, zC_493, zC_495, zC_497, zC_499, zM_18, zM_19, zM_20, zM_21, zM_22, zM_23, zM_24, zM_25, zM_26, zM_27, zM_28, zM_29, zM_30, zM_31, zM_32, zM_33, zM_34, zM_35, zM_36, zM_37, zM_38, zM_39, zM_40, zM_41, zM_42, zM_43, zM_44, zM_45, zM_46, zM_47, zM_48, zM_49, zM_50, zM_51, zM_52, zM_53, zM_54, zM_55, zM_56, zM_57, zM_58, zM_59, zM_60, zM_61, zM_62, zM_63, zM_64, zM_65, zM_66, zM_67, zM_68, zM_69, zM_70, zM_71, zM_72, zM_73, zM_74, zM_75, zM_76, zM_77, zM_78, zM_79, zM_80, zM_81, zM_82, zM_83, zM_84, zM_85, zM_86, zM_87, zM_88, zM_89, zM_90, zM_91, zM_92, zM_93, zM_94, zM_95, zM_96, zM_97, zM_98, zM_99, zM_100, zM_101, zM_102, zM_103, zM_104, zM_105, zM_106, zM_107, zM_108, zM_109, zM_110, zM_111, zM_112, zM_113, zM_114, zM_115, zM_116, zM_117, zM_118, zM_119]
  repeat (first | refine J_andL (by first | omega | (constructor <;> omega)) ?_ | refine J_andR (by first | omega | (constructor <;> omega)) ?_ | refine J_posL (by first | omega | (constructor <;> omega)) ?_ | refine J_negL (by first | omega | (constructor <;> omega)) ?_ | refine J_posR (by first | omega | (constructor <;> omega)) ?_ | refine J_negR (by first | omega | (constructor <;> omega)) ?_)
  refine J_call (p_bits xb zc (by omega) W) ?_
  intro o n1 h1 o' m1 w1 p
  obtain ⟨⟨p1, p2, p3, p4, W1, F1, G1⟩, _⟩ := p
  rw [p1, p2, p3, p4]
  simp only [e_kVv]
  have a4 : h1 X 4 = h X 4 := F1 X 4 (by unfold wrC; omega)
  rw [a4]
  repeat (first | refine J_andL (by first | omega | (constructor <;> omega)) ?_ | refine J_andR (by first | omega | (constructor <;> omega)) ?_ | refine J_posL (by first | omega | (constructor <;> omega)) ?_ | refine J_negL (by first | omega | (constructor <;> omega)) ?_ | refine J_posR (by first | omega | (constructor <;> omega)) ?_ | refine J_negR (by first | omega | (constructor <;> omega)) ?_)
  refine J_LI c_max ?_
  rw [← hu.2.2]
  repeat (first | refine J_andL (by first | omega | (constructor <;> omega)) ?_ | refine J_andR (by first | omega | (constructor <;> omega)) ?_ | refine J_posL (by first | omega | (constructor <;> omega)) ?_ | refine J_negL (by first | omega | (constructor <;> omega)) ?_ | refine J_posR (by first | omega | (constructor <;> omega)) ?_ | refine J_negR (by first | omega | (constructor <;> omega)) ?_)
  refine J_call (p_bits xb zc (by omega) W1) ?_
  intro o n1 h2 o' m1 w2 p
  obtain ⟨⟨p1, p2, p3, p4, W2, F2, G2⟩, _⟩ := p
  rw [p1, p2, p3, p4]
  simp only [e_kVv]
  have Ft := Fz_tr F1 F2
  have Gt := Fz_tr G1 G2
  clear F1 F2 G1 G2 W1 W a4 p1 p2 p3 p4
  have a3 : h2 X 3 = z := (Ft X 3 (by unfold wrC; omega)).trans ez
  have a4 : h2 X 4 = h X 4 := Ft X 4 (by unfold wrC; omega)
  have a5 : h2 355 0 = h 355 0 := Ft 355 0 (by unfold wrC; omega)
  have a2 : ∀ s, h2 (X + 2) s = h (X + 2) s := fun s => Ft _ _ (by unfold wrC; omega)
  have b3 : ∀ s, w2 43 s = w 43 s := fun s => Gt _ _ (by unfold wrM; omega)
  have b4 : ∀ s, w2 44 s = w 44 s := fun s => Gt _ _ (by unfold wrM; omega)
  rw [a3]
  repeat (first | refine J_andL (by first | omega | (constructor <;> omega)) ?_ | refine J_andR (by first | omega | (constructor <;> omega)) ?_ | refine J_posL (by first | omega | (constructor <;> omega)) ?_ | refine J_negL (by first | omega | (constructor <;> omega)) ?_ | refine J_posR (by first | omega | (constructor <;> omega)) ?_ | refine J_negR (by first | omega | (constructor <;> omega)) ?_)
  refine J_LI (c_nlzw (v := z - 1) (by omega) (by omega)) ?_
  refine J_RI (m_bitsOfw (v := z - 1) (by omega) (by omega)) ?_
  rw [show 32 - (32 - blw (z - 1)) = blw (z - 1) by omega, a4]
  generalize blw (z - 1) = wd at *
  rcases H with ⟨en, hu2, v, v0, va, vb, vc, vd⟩ | ⟨en, hu2, E1, E0, E3, F4⟩
  · rw [en]
    have key : ∀ x : Int, x = v → J2 (fun Q => T gC 553 [vR 15 314, vI x, vI wd] n h2 (kV (thr Q) fun n h => T_at gC 544 81 [some (vR 13 313), some (vR 16 X), some (vI 1), some (vI wd), some (vI 0), some (vI 1), none] [] n h Q)) (fun Q => T_at gM 304 36 [some (vR 33 17), some (vI c), some (vI z), some (vI 1), some (vI (704 * c)), some (vI wd), some (vI 99), some (vI 0), none] [] m w2 Q) (PW n m xo h w) := by
      intro x ex
      rw [ex]
      refine p_few1 (KL := fun Q => kV (thr Q) fun n h => T_at gC 544 81 [some (vR 13 313), some (vR 16 X), some (vI 1), some (vI wd), some (vI 0), some (vI 1), none] [] n h Q) xb zc W2 (by omega) c0 v0 (by omega) (by rw [b3, b4]; exact vc) (fun s a b e => by rw [b3]; exact vd s a b e) ?_ _
      intro h3 w3 W3 F3 G3
      have a43 : h3 X 4 = h X 4 := (F3 X 4 (by unfold wrC; omega)).trans a4
      simp only [e_kVv]
      refine J_impL (fun Q hq => blk (md := true) [81, 98] 99 GC FC rfl k544 hq) ?_
      simp -implicitDefEqProofs only [r_iconst, r_bipush, r_sipush, r_ldc, r_ldc_w, r_lconst, r_ldc2_w, r_aconst_null, r_iload, r_iload_n, r_lload, r_lload_n, r_aload, r_aload_n, r_istore, r_istore_n, r_lstore, r_lstore_n, r_astore, r_astore_n, r_iinc, r_iadd, r_iaddW, r_isub, r_isubW, r_imul, r_imulW, r_ladd, r_laddW, r_lsub, r_lsubW, r_lmul, r_lmulW, r_iand, r_ior, r_ishl, r_ishr, r_iushr, r_land, r_lor, r_lshl, r_lshr, r_lushr, r_idiv, r_irem, r_ldiv, r_lrem, r_lcmp, r_ineg, r_i2l, r_l2i, r_i2b, r_i2s, r_i2c, r_dup, r_pop, r_dup_x1, r_dup_x2, r_dup2, r_dup2L, r_icmp_eq, r_icmp_ne, r_icmp_lt, r_icmp_ge, r_icmp_gt, r_icmp_le, r_if_eq, r_if_ne, r_if_lt, r_if_ge, r_if_gt, r_if_le, r_acmp_eq, r_acmp_ne, r_ifnull, r_ifnonnull, r_goto, r_nop, r_tsw, r_lsw, r_getfield, r_getfinal, r_putfield, r_getstaticL, r_getstaticR, r_iaload, r_baload, r_saload, r_laload, r_aaload, r_aaloadM, r_iastore, r_bastore, r_zastore, r_sastore, r_lastore, r_aastore, r_alen, r_new, r_newarray, r_anewarray, r_invV, r_invI, r_objI, r_invS, r_acp, r_ireturn, r_zreturn, r_lreturn, r_return, r_areturn, r_athrow, ↓e_pI, ↓e_pL, ↓e_pR, ↓e_lg0, ↓e_lg1, ↓e_tk0, ↓e_tkI0, ↓e_tkI1, ↓e_tkI2, ↓e_tkI3, ↓e_tkI4, ↓e_tkL, ↓e_tkR0_0, ↓e_tkR0_1, ↓e_tkR1_0, ↓e_tkR1_1, ↓e_tkR2_0, ↓e_tkR2_1, ↓e_tkR3_0, ↓e_tkR3_1, ↓e_tkR4_0, ↓e_tkR4_1, ↓e_tkR5_0, ↓e_tkR5_1, ↓e_tkR6_0, ↓e_tkR6_1, ↓e_tkR7_0, ↓e_tkR7_1, ↓e_tkR8_0, ↓e_tkR8_1, ↓e_tkR9_0, ↓e_tkR9_1, ↓e_tkR10_0, ↓e_tkR10_1, ↓e_tkR11_0, ↓e_tkR11_1, ↓e_tkR12_0, ↓e_tkR12_1, ↓e_tkR13_0, ↓e_tkR13_1, ↓e_tkR14_0, ↓e_tkR14_1, ↓e_tkR15_0, ↓e_tkR15_1, ↓e_tkR16_0, ↓e_tkR16_1, ↓e_tkR17_0, ↓e_tkR17_1, ↓e_tkR39_0, ↓e_tkR39_1, ↓e_tkR40_0, ↓e_tkR40_1, ↓e_tkR41_0, ↓e_tkR41_1, ↓e_tkR42_0, ↓e_tkR42_1, ↓e_tkR43_0, ↓e_tkR43_1, ↓e_tkR44_0, ↓e_tkR44_1, ↓e_tkR45_0, ↓e_tkR45_1, ↓e_tkR46_0, ↓e_tkR46_1, ↓e_tkR47_0, ↓e_tkR47_1, ↓e_tkR48_0, ↓e_tkR48_1, ↓e_pv0, ↓e_pv1, ↓e_pv2, ↓e_pv3, ↓e_pv5, ↓e_pvR, ↓e_tsw0, ↓e_tsw1, ↓e_lsw0, ↓e_lsw1, e_kq100, e_kq0, e_kq3, e_kq5, e_kqR0, e_kqR1, e_kqR2, e_kqR3, e_kqR4, e_kqR5, e_kqR6, e_kqR7, e_kqR8, e_kqR9, e_kqR10, e_kqR11, e_kqR12, e_kqR13, e_kqR14, e_kqR15, e_kqR16, e_kqR17, e_kqR39, e_kqR40, e_kqR41, e_kqR42, e_kqR43, e_kqR44, e_kqR45, e_kqR46, e_kqR47, e_kqR48, e_st0I, e_st0R, e_st0L, e_st1N, e_st1I, e_st1L, e_st1R, e_st2, e_wd0, e_wdI, e_wdL, e_wdR, e_c1I, e_c1R, e_gv0, e_gv1, e_gv2, e_gv3, e_gv4, e_gv5, e_gvR0, e_gvR1, e_gvR2, e_gvR3, e_gvR4, e_gvR5, e_gvR6, e_gvR7, e_gvR8, e_gvR9, e_gvR10, e_gvR11, e_gvR12, e_gvR13, e_gvR14, e_gvR15, e_gvR16, e_gvR17, e_gvR39, e_gvR40, e_gvR41, e_gvR42, e_gvR43, e_gvR44, e_gvR45, e_gvR46, e_gvR47, e_gvR48, e_kX0, e_kX1, e_kVv, e_kVx, e_kIv, e_kIx, e_kLv, e_kLx, e_kRv, e_kRx, e_thr, e_lk1, e_ic0, e_ic1, e_jm, st_ap, clr_ap, e_lceq, e_lclt, e_lcgt, nn, ↓reduceIte, Nat.reduceDiv, Nat.reduceMod, Nat.reduceMul, Nat.reduceAdd, Nat.reduceEqDiff, Nat.reduceLeDiff, Int.reduceNatCast, Int.cast_ofNat_Int, Int.reduceSub, Int.reduceMul, Int.reduceNeg, Int.reduceAdd, Int.reduceLE, Int.reduceLT, Int.reduceEq, Int.reduceNe, true_and, and_true, true_or, and_self, ne_eq, not_false_eq_true, Bool.false_eq_true, reduceCtorEq, rd_l1, rd_l2, rd_l3, rd_l4, rd_l5, rd_l6, rd_l7, rd_l8, rd_l9, SB, rd_ge, i2b_2, false_and, and_false, not_true_eq_false, l544_0, l544_65, l544_71, l544_75, l544_81, l544_98, l544_122, l544_144, l544_145, l544_148, l544_154, l544_160, l544_178, l544_179, l544_183, s544_0, s544_65, s544_71, s544_75, s544_81, s544_98, s544_122, s544_144, s544_145, s544_148, s544_154, s544_160, s544_178, s544_179, s544_183, zC_18, zC_20, zC_21, zC_22, zC_23, zC_25, zC_26, zC_253, zC_254, zC_256, zC_257, zC_259, zC_260, zC_262, zC_263, zC_265, zC_266, zC_268, zC_269, zC_271, zC_272, zC_274, zC_275, zC_278, zC_279, zC_280, zC_281, zC_282, zC_284, zC_285, zC_287, zC_288, zC_290, zC_291, zC_293, zC_294, zC_296, zC_297, zC_299, zC_300, zC_302, zC_303, zC_304, zC_305, zC_306, zC_307, zC_308, zC_309, zC_310, zC_311, zC_312, zC_315, zC_316, zC_317, zC_319, zC_320, zC_321, zC_323, zC_324, zC_325, zC_327, zC_328, zC_329, zC_331, zC_332, zC_333, zC_335, zC_336, zC_337, zC_339, zC_340, zC_341, zC_343, zC_344, zC_345, zC_347, zC_348, zC_349, zC_350, zC_351, zC_352, zC_353, zC_354, zC_355, zC_356, zC_357, zC_358, zC_359, zC_361, zC_362, zC_363, zC_364, zC_367, zC_368, zC_369, zC_370, zC_371, zC_372, zC_373, zC_374, zC_375, zC_376, zC_378, zC_380, zC_381, zC_383, zC_384, zC_386, zC_387, zC_389, zC_390, zC_391, zC_392, zC_393, zC_394, zC_395, zC_396, zC_397, zC_398, zC_400, zC_402, zC_403, zC_405, zC_407, zC_409, zC_411, zC_413, zC_415, zC_417, zC_420, zC_421, zC_422, zC_423, zC_424, zC_425, zC_427, zC_429, zC_431, zC_433, zC_436, zC_437, zC_438, zC_439, zC_440, zC_441, zC_442, zC_443, zC_444, zC_445, zC_447, zC_448, zC_450, zC_451, zC_453, zC_454, zC_455, zC_456, zC_457, zC_458, zC_460, zC_461, zC_462, zC_463, zC_464, zC_465, zC_466, zC_467, zC_468, zC_469, zC_471, zC_473, zC_474, zC_476, zC_477, zC_478, zC_479, zC_480, zC_481, zC_482, zC_483, zC_484, zC_485, zC_487, zC_489, zC_490, zC_491, zC_493, zC_495, zC_497, zC_499]
      rw [a43]
      repeat (first | refine J_andL (by first | omega | (constructor <;> omega)) ?_ | refine J_andR (by first | omega | (constructor <;> omega)) ?_ | refine J_posL (by first | omega | (constructor <;> omega)) ?_ | refine J_negL (by first | omega | (constructor <;> omega)) ?_ | refine J_posR (by first | omega | (constructor <;> omega)) ?_ | refine J_negR (by first | omega | (constructor <;> omega)) ?_)
      exact J_end ⟨rfl, rfl, rfl, rfl, W3, Fz_tr Ft F3, Fz_tr Gt G3⟩
    rcases hu2 with e | e
    · rw [e]
      repeat (first | refine J_andL (by first | omega | (constructor <;> omega)) ?_ | refine J_andR (by first | omega | (constructor <;> omega)) ?_ | refine J_posL (by first | omega | (constructor <;> omega)) ?_ | refine J_negL (by first | omega | (constructor <;> omega)) ?_ | refine J_posR (by first | omega | (constructor <;> omega)) ?_ | refine J_negR (by first | omega | (constructor <;> omega)) ?_)
      exact key 0 (va e).symm
    · rw [e, a5]
      repeat (first | refine J_andL (by first | omega | (constructor <;> omega)) ?_ | refine J_andR (by first | omega | (constructor <;> omega)) ?_ | refine J_posL (by first | omega | (constructor <;> omega)) ?_ | refine J_negL (by first | omega | (constructor <;> omega)) ?_ | refine J_posR (by first | omega | (constructor <;> omega)) ?_ | refine J_negR (by first | omega | (constructor <;> omega)) ?_)
      exact key _ (vb e)
  · rw [en]
    repeat (first | refine J_andL (by first | omega | (constructor <;> omega)) ?_ | refine J_andR (by first | omega | (constructor <;> omega)) ?_ | refine J_posL (by first | omega | (constructor <;> omega)) ?_ | refine J_negL (by first | omega | (constructor <;> omega)) ?_ | refine J_posR (by first | omega | (constructor <;> omega)) ?_ | refine J_negR (by first | omega | (constructor <;> omega)) ?_)
    refine m_fewN (by omega) c0 (by omega) (by omega : (0 : Int) ≤ 1) (by omega) (fun s s0 s1 k k0 k1 g => E0 s s0 s1 (by rw [b3, b4] at g; exact ⟨g.1, by omega⟩)) (fun y8 => ?_) _
    refine J_mono (p_fewM xb zc W2 (by omega) c0 X0 y2 a3 a4 hu2 (by omega) (fun s a b k k1 => by rw [b3, b4, a2]; exact E1 s a b k k1) (fun s a b => by rw [a2]; exact E3 s a b) (by rw [show (fun s => h2 (X + 2) s) = (fun s => h (X + 2) s) from funext a2]; exact F4) _ _) ?_
    rintro o n1 h3 o' m1 w3 ⟨p1, p2, p3, p4, W3, F3, G3⟩
    exact ⟨p1, p2, p3, p4, W3, Fz_tr Ft F3, Fz_tr Gt G3⟩
end
