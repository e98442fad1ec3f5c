set_option maxRecDepth 100000
section
variable {A B : Qt → Prop} {Φ : Out → Int → Mem → Out → Int → Mem → Prop} {KL KM : Qt → Qt} {n m : Int} {h w : Mem}
/-- tags rise -/
theorem tg_up {f : Int → Int} {c : Int} (u : ∀ i, 0 ≤ i → i < c → 0 < i → f (i - 1) < f i) {i j : Int} (i0 : 0 ≤ i) (ij : i < j) (j1 : j < c) : f i < f j := by
  have key : ∀ d : Nat, i + 1 + d < c → f i < f (i + 1 + d) := by
    intro d
    induction d with
    | zero => intro hd; have := u (i + 1) (by omega) (by omega) (by omega); rw [show i + 1 - 1 = i by omega] at this; rw [show i + 1 + ((0 : Nat) : Int) = i + 1 by omega]; exact this
    | succ d ih => intro hd; have a := ih (by omega); have b := u (i + 1 + ((d + 1 : Nat) : Int)) (by omega) hd (by omega); rw [show i + 1 + ((d + 1 : Nat) : Int) - 1 = i + 1 + (d : Int) by omega] at b; omega
  have := key (j - (i + 1)).toNat (by omega)
  rw [show i + 1 + (((j - (i + 1)).toNat : Nat) : Int) = j by omega] at this
  exact this
theorem tg_eq {f : Int → Int} {c : Int} (u : ∀ i, 0 ≤ i → i < c → 0 < i → f (i - 1) < f i) {i j : Int} (i0 : 0 ≤ i ∧ i < c) (j0 : 0 ≤ j ∧ j < c) (e : f i = f j) : i = j := by
  have a : ¬ i < j := fun q => by have := tg_up u i0.1 q j0.2; omega
  have b : ¬ j < i := fun q => by have := tg_up u j0.1 q i0.2; omega
  omega
/-- one table is met (195@50 / 418@14) -/
theorem p_col1 {β : Int → Int} {M p i c : Int} {a5 a7 b4 b6 b7 : Option V} (R : RSB β h w) (p0 : 0 ≤ p ∧ p < 4) (mp : mbt M p = true) (hp : w 55 p = 1) (gl : (∃ j, (0 ≤ j ∧ j < w 57 p) ∧ w 58 (16 * p + j) = 1735162214) ↔ ∃ j, (0 ≤ j ∧ j < w 57 p) ∧ w 58 (16 * p + j) = 1819239265) (i0 : 0 ≤ i ∧ i < w 57 p) (E : ENQ β c h w) (K : ∀ j, 0 ≤ j → j < i → EOK c p j w)
    (ok : ∀ (h1 w1 : Mem) (c' : Int) (a5 a7 b4 b6 b7 : Option V), ENQ β c' h1 w1 → c ≤ c' → (∀ e, 0 ≤ e → e < c → w1 106 e = w 106 e) → EOK c' p i w1 → (∀ j, j ≠ 16 * p + i → w1 108 j = w 108 j) → h1 419 7 = h 419 7 → Fz coC h h1 → Fz coM w w1 → J2 (fun Q => T_at gC 195 50 [some (vR 27 418), some (vI M), some (vI p), some (vR 6 (252 + 6 * p)), some (vI (i + 1)), a5, none, a7] [] n h1 (KL Q)) (fun Q => T_at gM 418 14 [some (vR 33 17), some (vI M), some (vI p), some (vI (i + 1)), b4, none, b6, b7] [] m w1 (KM Q)) Φ)
    (bad : ∀ h1 w1 : Mem, Fz coC h h1 → Fz coM w w1 → J2 (fun Q => KL Q (.inl (some (vI 0))) n h1) (fun Q => KM Q (.inl (some (vI 0))) m w1) Φ) :
    J2 (fun Q => T_at gC 195 50 [some (vR 27 418), some (vI M), some (vI p), some (vR 6 (252 + 6 * p)), some (vI i), a5, none, a7] [] n h (KL Q)) (fun Q => T_at gM 418 14 [some (vR 33 17), some (vI M), some (vI p), some (vI i), b4, none, b6, b7] [] m w (KM Q)) Φ := by
  obtain ⟨KC, BDD, FTs, -, -, -, -, -, tgg⟩ := id R
  obtain ⟨f1, f2, f3⟩ := FTs p p0.1 p0.2
  obtain ⟨⟨f4, f5, f6, f7⟩, f8⟩ := f3 hp
  rw [FO_4 p0.2] at f4 f5 f8
  obtain ⟨E1, E2, E3, E4, E5⟩ := id E
  have up : ∀ j, 0 ≤ j → j < w 57 p → 0 < j → (fun j => w 58 (16 * p + j)) (j - 1) < (fun j => w 58 (16 * p + j)) j := fun j a b c => by
    have := (f8 j a b).2.1 c
    show w 58 (16 * p + (j - 1)) < w 58 (16 * p + j)
    rw [show 16 * p + (j - 1) = 16 * p + j - 1 by omega]; exact this
  have mb := mbt_t mp
  have zf := fsz (x := 2 * p) (by omega)
  rw [show 252 + 3 * (2 * p) + 1 = 252 + 6 * p + 1 by omega, show 252 + 3 * (2 * p) + 2 = 252 + 6 * p + 2 by omega] at zf
  obtain ⟨⟨fi1, fi2⟩, -, k, bk, fk1, fk2⟩ := f8 i i0.1 i0.2
  have k0 := bk.1
  have k1 := bk.2.1
  have bb := (BDD.1 k bk).2.1
  obtain ⟨rl, Fl⟩ := fds_ex (fun j => w 58 (16 * p + j)) 1819239265 f6
  have Flh : FDS (h (252 + 6 * p + 1)) 1819239265 (h (252 + 6 * p) 2) rl := by rw [f5]; exact fds_c Fl (fun j a b => (f8 j a b).1.1)
  have cof := c_cof (n := n) p0 (v := 1819239265) ⟨rl, Flh, rfl, by rw [f5]; omega⟩
  generalize exl : (if rl < 0 then 0 else h (252 + 6 * p + 2) rl) = xl at cof
  have mtl : ∀ {w2 : Mem}, (∀ a j, 57 ≤ a → a ≤ 59 → w2 a j = w a j) → Ev gM 320 [vR 33 17, vI p, vL 1819239265] m w2 (.inl (some (vI rl))) m w2 := fun {w2} e => m_tableOf (by omega) (by rw [show (fun i => w2 58 (16 * p + i)) = fun i => w 58 (16 * p + i) from funext fun j => e _ _ (by omega) (by omega), e _ _ (by omega) (by omega)]; exact Fl) (by rw [e _ _ (by omega) (by omega)]; exact ⟨f6, f7⟩)
  -- the house's entries are found as the model's are
  have glh : ∀ e, 0 ≤ e → e < c → h 420 e = 1735162214 → e + 1 < c := fun e a b z => ((E5 e a b).1 (by rw [← (E4 e a b).1]; exact z)).1
  have loh : ∀ e, 0 ≤ e → e < c → h 420 e = 1819239265 → 1 ≤ e := fun e a b z => ((E5 e a b).2 (by rw [← (E4 e a b).1]; exact z)).1
  have eq1 := fun e (e0 : 0 ≤ e ∧ e < c) => enq_b (k := k) R E p0 hp ⟨i0.1, i0.2, by omega⟩ bk fk2 e0
  have idx : i32 (16 * p) ∧ i32 (16 * p + i) ∧ 0 ≤ 16 * p + i ∧ 16 * p + i < 128 := ⟨by unfold i32; omega, by unfold i32; omega, by omega, by omega⟩
  -- a cell of 108 is written
  have ENw : ∀ {h2 w2 : Mem} {c2 v : Int}, ENQ β c2 h2 w2 → ENQ β c2 h2 (st w2 108 (16 * p + i) v) := fun {h2 w2 c2 v} EE => ⟨EE.1, by rw [st_na (by omega)]; exact EE.2.1, EE.2.2.1, fun e a b => EN1q_t (EE.2.2.2.1 e a b) (fun _ _ _ => rfl) ⟨rfl, rfl, rfl, rfl⟩ (fun a j q => st_na (by omega)) ⟨st_na (by omega), st_na (by omega), st_na (by omega)⟩, fun e a b => by
    rw [st_na (by omega), st_na (by omega), st_na (by omega)]; exact EE.2.2.2.2 e a b⟩
  refine J_impL (fun Q hq => blk (md := true) [18, 50] 99 GC FC rfl k195 hq) ?_
  refine J_impR (fun Q hq => blk (md := true) [7, 14] 99 GM FM rfl k418 hq) ?_
  simp -implicitDefEqProofs only [r_iconst, r_bipush, r_sipush, r_ldc, r_ldc_w, r_lconst, r_ldc2_w, r_aconst_null, r_iload, r_iload_n, r_lload, r_lload_n, r_aload, r_aload_n, r_istore, r_istore_n, r_lstore, r_lstore_n, r_astore, r_astore_n, r_iinc, r_iadd, r_iaddW, r_isub, r_isubW, r_imul, r_imulW, r_ladd, r_laddW, r_lsub, r_lsubW, r_lmul, r_lmulW, r_iand, r_ior, r_ishl, r_ishr, r_iushr, r_land, r_lor, r_lshl, r_lshr, r_lushr, r_idiv, r_irem, r_ldiv, r_lrem, r_lcmp, r_ineg, r_i2l, r_l2i, r_i2b, r_i2s, r_i2c, r_dup, r_pop, r_dup_x1, r_dup_x2, r_dup2, r_dup2L, r_icmp_eq, r_icmp_ne, r_icmp_lt, r_icmp_ge, r_icmp_gt, r_icmp_le, r_if_eq, r_if_ne, r_if_lt, r_if_ge, r_if_gt, r_if_le, r_acmp_eq, r_acmp_ne, r_ifnull, r_ifnonnull, r_goto, r_nop, r_tsw, r_lsw, r_getfield, r_getfinal, r_putfield, r_getstaticL, r_getstaticR, r_iaload, r_baload, r_saload, r_laload, r_aaload, r_aaloadM, r_iastore, r_bastore, r_zastore, r_sastore, r_lastore, r_aastore, r_alen, r_new, r_newarray, r_anewarray, r_invV, r_invI, r_objI, r_invS, r_acp, r_ireturn, r_zreturn, r_lreturn, r_return, r_areturn, r_athrow, ↓e_pI, ↓e_pL, ↓e_pR, ↓e_lg0, ↓e_lg1, ↓e_tk0, ↓e_tkI0, ↓e_tkI1, ↓e_tkI2, ↓e_tkI3, ↓e_tkI4, ↓e_tkL, ↓e_tkR0_0, ↓e_tkR0_1, ↓e_tkR1_0, ↓e_tkR1_1, ↓e_tkR2_0, ↓e_tkR2_1, ↓e_tkR3_0, ↓e_tkR3_1, ↓e_tkR4_0, ↓e_tkR4_1, ↓e_tkR5_0, ↓e_tkR5_1, ↓e_tkR6_0, ↓e_tkR6_1, ↓e_tkR7_0, ↓e_tkR7_1, ↓e_tkR8_0, ↓e_tkR8_1, ↓e_tkR9_0, ↓e_tkR9_1, ↓e_tkR10_0, ↓e_tkR10_1, ↓e_tkR11_0, ↓e_tkR11_1, ↓e_tkR12_0, ↓e_tkR12_1, ↓e_tkR13_0, ↓e_tkR13_1, ↓e_tkR14_0, ↓e_tkR14_1, ↓e_tkR15_0, ↓e_tkR15_1, ↓e_tkR16_0, ↓e_tkR16_1, ↓e_tkR17_0, ↓e_tkR17_1, ↓e_tkR39_0, ↓e_tkR39_1, ↓e_tkR40_0, ↓e_tkR40_1, ↓e_tkR41_0, ↓e_tkR41_1, ↓e_tkR42_0, ↓e_tkR42_1, ↓e_tkR43_0, ↓e_tkR43_1, ↓e_tkR44_0, ↓e_tkR44_1, ↓e_tkR45_0, ↓e_tkR45_1, ↓e_tkR46_0, ↓e_tkR46_1, ↓e_tkR47_0, ↓e_tkR47_1, ↓e_tkR48_0, ↓e_tkR48_1, ↓e_pv0, ↓e_pv1, ↓e_pv2, ↓e_pv3, ↓e_pv5, ↓e_pvR, ↓e_tsw0, ↓e_tsw1, ↓e_lsw0, ↓e_lsw1, e_kq100, e_kq0, e_kq3, e_kq5, e_kqR0, e_kqR1, e_kqR2, e_kqR3, e_kqR4, e_kqR5, e_kqR6, e_kqR7, e_kqR8, e_kqR9, e_kqR10, e_kqR11, e_kqR12, e_kqR13, e_kqR14, e_kqR15, e_kqR16, e_kqR17, e_kqR39, e_kqR40, e_kqR41, e_kqR42, e_kqR43, e_kqR44, e_kqR45, e_kqR46, e_kqR47, e_kqR48, e_st0I, e_st0R, e_st0L, e_st1N, e_st1I, e_st1L, e_st1R, e_st2, e_wd0, e_wdI, e_wdL, e_wdR, e_c1I, e_c1R, e_gv0, e_gv1, e_gv2, e_gv3, e_gv4, e_gv5, e_gvR0, e_gvR1, e_gvR2, e_gvR3, e_gvR4, e_gvR5, e_gvR6, e_gvR7, e_gvR8, e_gvR9, e_gvR10, e_gvR11, e_gvR12, e_gvR13, e_gvR14, e_gvR15, e_gvR16, e_gvR17, e_gvR39, e_gvR40, e_gvR41, e_gvR42, e_gvR43, e_gvR44, e_gvR45, e_gvR46, e_gvR47, e_gvR48, e_kX0, e_kX1, e_kVv, e_kVx, e_kIv, e_kIx, e_kLv, e_kLx, e_kRv, e_kRx, e_thr, e_lk1, e_ic0, e_ic1, e_jm, st_ap, clr_ap, e_lceq, e_lclt, e_lcgt, nn, ↓reduceIte, Nat.reduceDiv, Nat.reduceMod, Nat.reduceMul, Nat.reduceAdd, Nat.reduceEqDiff, Nat.reduceLeDiff, Int.reduceNatCast, Int.cast_ofNat_Int, Int.reduceSub, Int.reduceMul, Int.reduceNeg, Int.reduceAdd, Int.reduceLE, Int.reduceLT, Int.reduceEq, Int.reduceNe, true_and, and_true, true_or, and_self, ne_eq, not_false_eq_true, Bool.false_eq_true, reduceCtorEq, rd_l1, rd_l2, rd_l3, rd_l4, rd_l5, rd_l6, rd_l7, rd_l8, rd_l9, SB, rd_ge, i2b_2, false_and, and_false, not_true_eq_false, l195_0, l195_18, l195_34, l195_50, l195_119, l195_164, l195_166, l195_172, l195_185, l195_191, s195_0, s195_18, s195_34, s195_50, s195_119, s195_164, s195_166, s195_172, s195_185, s195_191, l418_0, l418_7, l418_14, l418_122, l418_141, l418_157, l418_200, l418_243, l418_255, l418_268, l418_274, l418_280, s418_0, s418_7, s418_14, s418_122, s418_141, s418_157, s418_200, s418_243, s418_255, s418_268, s418_274, s418_280, zC_18, zC_20, zC_21, zC_22, zC_23, zC_25, zC_26, zC_253, zC_254, zC_256, zC_257, zC_259, zC_260, zC_262, zC_263, zC_265, zC_266, zC_268, zC_269, zC_271, zC_272, zC_274, zC_275, zC_278, zC_279, zC_280, zC_281, zC_282, zC_284, zC_285, zC_287, zC_288, zC_290, zC_291, zC_293, zC_294, zC_296, zC_297, zC_299, zC_300, zC_302, zC_303, zC_304, zC_305, zC_306, zC_307, zC_308, zC_309, zC_310, zC_311, zC_312, zC_315, zC_316, zC_317, zC_319, zC_320, zC_321, zC_323, zC_324, zC_325, zC_327, zC_328, zC_329, zC_331, zC_332, zC_333, zC_335, zC_336, zC_337, zC_339, zC_340, zC_341, zC_343, zC_344, zC_345, zC_347, zC_348, zC_349, zC_350, zC_351, zC_352, zC_353, zC_354, zC_355, zC_356, zC_357, zC_358, zC_359, zC_361, zC_362, zC_363, zC_364, zC_367, zC_368, zC_369, zC_370, zC_371, zC_372, zC_373, zC_374, zC_375, zC_376, zC_378, zC_380, zC_381, zC_383, zC_384, zC_386, zC_387, zC_389, zC_390, zC_391, zC_392, zC_393, zC_394, zC_395, zC_396, zC_397, zC_398, zC_400, zC_402, zC_403, zC_405, zC_407, zC_409, zC_411, zC_413, zC_415, zC_417, zC_420, zC_421, zC_422, zC_423, zC_424, zC_425, zC_427, zC_429, zC_431, zC_433, zC_436, zC_437, zC_438, zC_439, zC_440, zC_441, zC_442, zC_443, zC_444, zC_445, zC_447, zC_448, zC_450, zC_451, zC_453, zC_454, zC_455, zC_456, zC_457, zC_458, zC_460, zC_461, zC_462, zC_463, zC_464, zC_465, zC_466, zC_467, zC_468, zC_469, zC_471, zC_473, zC_474, zC_476, zC_477, zC_478, zC_479, zC_480, zC_481, zC_482, zC_483, zC_484, zC_485, zC_487, zC_489, zC_490, zC_491, zC_493, zC_495, zC_497, zC_499, zM_18, zM_19, zM_20, zM_21, zM_22, zM_23, zM_24, zM_25, zM_26, zM_27, zM_28, zM_29, zM_30, zM_31, zM_32, zM_33, zM_34, zM_35, zM_36, zM_37, zM_38, zM_39, zM_40, zM_41, zM_42, zM_43, zM_44, zM_45, zM_46, zM_47, zM_48, zM_49, zM_50, zM_51, zM_52, zM_53, zM_54, zM_55, zM_56, zM_57, zM_58, zM_59, zM_60, zM_61, zM_62, zM_63, zM_64, zM_65, zM_66, zM_67, zM_68, zM_69, zM_70, zM_71, zM_72, zM_73, zM_74, zM_75, zM_76, zM_77, zM_78, zM_79, zM_80, zM_81, zM_82, zM_83, zM_84, zM_85, zM_86, zM_87, zM_88, zM_89, zM_90, zM_91, zM_92, zM_93, zM_94, zM_95, zM_96, zM_97, zM_98, zM_99, zM_100, zM_101, zM_102, zM_103, zM_104, zM_105, zM_106, zM_107, zM_108, zM_109, zM_110, zM_111, zM_112, zM_113, zM_114, zM_115, zM_116, zM_117, zM_118, zM_119]
  rw [f5, fi1, zf.1, zf.2]
  refine J_andL (by omega) (J_posL i0.2 (J_andL (by omega) (J_andL i0.1 (J_andL (by omega) (J_andL (by omega) (J_LR cof ?_))))))
  refine J_posR mb (J_andR p0.1 (J_andR (by omega) (J_posR i0.2 (J_andR idx.1 (J_andR idx.2.1 (J_andR idx.2.2.1 (J_andR idx.2.2.2 (J_andR idx.1 (J_andR idx.2.1 (J_andR idx.2.2.1 (J_andR idx.2.2.2 ?_)))))))))))
  have wB5 : ∀ v a j, 55 ≤ a → a ≤ 59 → st w 108 (16 * p + i) v a j = w a j := fun v a j x y => st_na (by omega)
  have wBF : ∀ v, Fz coM w (st w 108 (16 * p + i) v) := fun v => Fz_st Fz_0 (by unfold coM; omega)
  by_cases tg : w 58 (16 * p + i) = 1735162214
  · -- a glyf
    obtain ⟨jl, jl0, jl1⟩ := gl.1 ⟨i, i0, tg⟩
    have rl0 : 0 ≤ rl ∧ rl < w 57 p ∧ w 58 (16 * p + rl) = 1819239265 := by
      rcases Fl with ⟨-, q⟩ | ⟨a, b, c, -⟩
      · exact absurd jl1 (q jl jl0.1 jl0.2)
      · exact ⟨a, b, c⟩
    obtain ⟨-, -, kl, bkl, fl1, fl2⟩ := f8 rl rl0.1 rl0.2.1
    have exl' : xl = 28 + 2 * kl := by rw [← exl, if_neg (by omega)]; exact fl1
    have kl0 := bkl.1
    have bl := (BDD.1 kl bkl).2.1
    have eq2 := fun e (e0 : 0 ≤ e ∧ e < c) => enq_b (k := kl) R E p0 hp ⟨rl0.1, rl0.2.1, by omega⟩ bkl fl2 e0
    have ne : w 59 (16 * p + i) ≠ w 59 (16 * p + rl) := fun z => by
      have := tgg p p i rl p0 p0 hp hp ⟨i0.1, i0.2, by omega⟩ ⟨rl0.1, rl0.2.1, by omega⟩ z
      omega
    obtain ⟨r, FR⟩ := fst_ex (fun e => w 106 e = w 59 (16 * p + i) ∧ e + 1 < c ∧ w 106 (e + 1) = w 59 (16 * p + rl)) c
    have FH : FST (fun e => h 420 e = 1735162214 ∧ h 424 e = 28 + 2 * k ∧ ((1735162214 : Int) = 1735162214 → h 424 (e + 1) = xl) ∧ ((1735162214 : Int) = 1819239265 → h 424 (e - 1) = xl)) c r := FST_c FR (fun e a b => by
      constructor
      · rintro ⟨z1, z2, z3⟩
        have t9 := (eq1 e ⟨a, b⟩).2 z1
        refine ⟨by rw [(E4 e a b).1, t9, tg], (eq1 e ⟨a, b⟩).1.2 z1, fun _ => ?_, fun z => by omega⟩
        rw [exl']; exact (eq2 (e + 1) ⟨by omega, z2⟩).1.2 z3
      · rintro ⟨z1, z2, z3, -⟩
        have l9 := glh e a b z1
        refine ⟨(eq1 e ⟨a, b⟩).1.1 z2, l9, (eq2 (e + 1) ⟨by omega, l9⟩).1.1 ?_⟩
        rw [← exl']; exact z3 rfl)
    have uq : ∀ j, 0 ≤ j → j < w 57 p → w 58 (16 * p + j) = 1819239265 → j = rl := fun j a b z => tg_eq up ⟨a, b⟩ ⟨rl0.1, rl0.2.1⟩ (by show w 58 _ = w 58 _; rw [z, rl0.2.2])
    have FM : FST (fun e => st w 108 (16 * p + i) (-1) 106 e = w 59 (16 * p + i) ∧ (w 59 (16 * p + rl) < 0 ∨ (e + 1 < c ∧ st w 108 (16 * p + i) (-1) 106 (e + 1) = w 59 (16 * p + rl)))) c r := FST_c FR (fun e a b => by
      rw [st_na (by omega), st_na (by omega)]
      constructor
      · rintro ⟨z1, z2, z3⟩; exact ⟨z1, Or.inr ⟨z2, z3⟩⟩
      · rintro ⟨z1, z2 | z2⟩
        · rw [fl2] at z2; omega
        · exact ⟨z1, z2⟩)
    have c203 := c_203 (n := n) (h := h) E1 E3 glh loh FH
    have m419 := m_419 (m := m) (w := st w 108 (16 * p + i) (-1)) (by rw [st_na (by omega)]; exact E2) E3 FM
    rw [tg]
    refine J_negL (by omega) (J_negL (by omega) (J_andL (by omega) (J_andL i0.1 (J_andL (by omega) ?_))))
    rw [fk1]
    refine J_LI c203 ?_
    refine J_posR rfl (J_RI (mtl (fun a j x y => wB5 _ a j (by omega) y)) ?_)
    rw [wB5 _ 59 _ (by omega) (by omega), wB5 _ 59 _ (by omega) (by omega)]
    refine J_andR idx.1 (J_andR idx.2.1 (J_andR idx.2.2.1 (J_andR idx.2.2.2 (J_andR idx.1 (J_andR (by unfold i32; omega) (J_andR (by omega) (J_andR (by omega) (J_RI m419 ?_))))))))
    rcases FR with ⟨r1, r2⟩ | ⟨r1, r2, r3⟩
    · -- it is new
      refine J_posL (by omega) (J_posR (by omega) ?_)
      rw [st_na (by omega), E2]
      refine J_andL (by omega) (J_andL i0.1 (J_andL (by omega) ?_))
      rw [fk1]
      by_cases full : c = 40
      · have e40 : Ev gC 204 [vR 29 419, vL 1735162214, vR 2 (28 + 2 * k), vI p] n h (.inl (some (vI 0))) n h := by
          intro Q hQ
          refine T_go (md := true) [some (vR 29 419), some (vL 1735162214), none, some (vR 2 (28 + 2 * k)), some (vI p)] [] 99 (by decide) rfl (Nat.le_of_ble_eq_true rfl) GC FC rfl k204 ?_
          simp -implicitDefEqProofs only [r_iconst, r_bipush, r_sipush, r_ldc, r_ldc_w, r_lconst, r_ldc2_w, r_aconst_null, r_iload, r_iload_n, r_lload, r_lload_n, r_aload, r_aload_n, r_istore, r_istore_n, r_lstore, r_lstore_n, r_astore, r_astore_n, r_iinc, r_iadd, r_iaddW, r_isub, r_isubW, r_imul, r_imulW, r_ladd, r_laddW, r_lsub, r_lsubW, r_lmul, r_lmulW, r_iand, r_ior, r_ishl, r_ishr, r_iushr, r_land, r_lor, r_lshl, r_lshr, r_lushr, r_idiv, r_irem, r_ldiv, r_lrem, r_lcmp, r_ineg, r_i2l, r_l2i, r_i2b, r_i2s, r_i2c, r_dup, r_pop, r_dup_x1, r_dup_x2, r_dup2, r_dup2L, r_icmp_eq, r_icmp_ne, r_icmp_lt, r_icmp_ge, r_icmp_gt, r_icmp_le, r_if_eq, r_if_ne, r_if_lt, r_if_ge, r_if_gt, r_if_le, r_acmp_eq, r_acmp_ne, r_ifnull, r_ifnonnull, r_goto, r_nop, r_tsw, r_lsw, r_getfield, r_getfinal, r_putfield, r_getstaticL, r_getstaticR, r_iaload, r_baload, r_saload, r_laload, r_aaload, r_aaloadM, r_iastore, r_bastore, r_zastore, r_sastore, r_lastore, r_aastore, r_alen, r_new, r_newarray, r_anewarray, r_invV, r_invI, r_objI, r_invS, r_acp, r_ireturn, r_zreturn, r_lreturn, r_return, r_areturn, r_athrow, ↓e_pI, ↓e_pL, ↓e_pR, ↓e_lg0, ↓e_lg1, ↓e_tk0, ↓e_tkI0, ↓e_tkI1, ↓e_tkI2, ↓e_tkI3, ↓e_tkI4, ↓e_tkL, ↓e_tkR0_0, ↓e_tkR0_1, ↓e_tkR1_0, ↓e_tkR1_1, ↓e_tkR2_0, ↓e_tkR2_1, ↓e_tkR3_0, ↓e_tkR3_1, ↓e_tkR4_0, ↓e_tkR4_1, ↓e_tkR5_0, ↓e_tkR5_1, ↓e_tkR6_0, ↓e_tkR6_1, ↓e_tkR7_0, ↓e_tkR7_1, ↓e_tkR8_0, ↓e_tkR8_1, ↓e_tkR9_0, ↓e_tkR9_1, ↓e_tkR10_0, ↓e_tkR10_1, ↓e_tkR11_0, ↓e_tkR11_1, ↓e_tkR12_0, ↓e_tkR12_1, ↓e_tkR13_0, ↓e_tkR13_1, ↓e_tkR14_0, ↓e_tkR14_1, ↓e_tkR15_0, ↓e_tkR15_1, ↓e_tkR16_0, ↓e_tkR16_1, ↓e_tkR17_0, ↓e_tkR17_1, ↓e_tkR39_0, ↓e_tkR39_1, ↓e_tkR40_0, ↓e_tkR40_1, ↓e_tkR41_0, ↓e_tkR41_1, ↓e_tkR42_0, ↓e_tkR42_1, ↓e_tkR43_0, ↓e_tkR43_1, ↓e_tkR44_0, ↓e_tkR44_1, ↓e_tkR45_0, ↓e_tkR45_1, ↓e_tkR46_0, ↓e_tkR46_1, ↓e_tkR47_0, ↓e_tkR47_1, ↓e_tkR48_0, ↓e_tkR48_1, ↓e_pv0, ↓e_pv1, ↓e_pv2, ↓e_pv3, ↓e_pv5, ↓e_pvR, ↓e_tsw0, ↓e_tsw1, ↓e_lsw0, ↓e_lsw1, e_kq100, e_kq0, e_kq3, e_kq5, e_kqR0, e_kqR1, e_kqR2, e_kqR3, e_kqR4, e_kqR5, e_kqR6, e_kqR7, e_kqR8, e_kqR9, e_kqR10, e_kqR11, e_kqR12, e_kqR13, e_kqR14, e_kqR15, e_kqR16, e_kqR17, e_kqR39, e_kqR40, e_kqR41, e_kqR42, e_kqR43, e_kqR44, e_kqR45, e_kqR46, e_kqR47, e_kqR48, e_st0I, e_st0R, e_st0L, e_st1N, e_st1I, e_st1L, e_st1R, e_st2, e_wd0, e_wdI, e_wdL, e_wdR, e_c1I, e_c1R, e_gv0, e_gv1, e_gv2, e_gv3, e_gv4, e_gv5, e_gvR0, e_gvR1, e_gvR2, e_gvR3, e_gvR4, e_gvR5, e_gvR6, e_gvR7, e_gvR8, e_gvR9, e_gvR10, e_gvR11, e_gvR12, e_gvR13, e_gvR14, e_gvR15, e_gvR16, e_gvR17, e_gvR39, e_gvR40, e_gvR41, e_gvR42, e_gvR43, e_gvR44, e_gvR45, e_gvR46, e_gvR47, e_gvR48, e_kX0, e_kX1, e_kVv, e_kVx, e_kIv, e_kIx, e_kLv, e_kLx, e_kRv, e_kRx, e_thr, e_lk1, e_ic0, e_ic1, e_jm, st_ap, clr_ap, e_lceq, e_lclt, e_lcgt, nn, ↓reduceIte, Nat.reduceDiv, Nat.reduceMod, Nat.reduceMul, Nat.reduceAdd, Nat.reduceEqDiff, Nat.reduceLeDiff, Int.reduceNatCast, Int.cast_ofNat_Int, Int.reduceSub, Int.reduceMul, Int.reduceNeg, Int.reduceAdd, Int.reduceLE, Int.reduceLT, Int.reduceEq, Int.reduceNe, true_and, and_true, true_or, and_self, ne_eq, not_false_eq_true, Bool.false_eq_true, reduceCtorEq, rd_l1, rd_l2, rd_l3, rd_l4, rd_l5, rd_l6, rd_l7, rd_l8, rd_l9, SB, rd_ge, i2b_2, false_and, and_false, not_true_eq_false, l204_0, l204_11, s204_0, s204_11, zC_18, zC_20, zC_21, zC_22, zC_23, zC_25, zC_26, zC_253, zC_254, zC_256, zC_257, zC_259, zC_260, zC_262, zC_263, zC_265, zC_266, zC_268, zC_269, zC_271, zC_272, zC_274, zC_275, zC_278, zC_279, zC_280, zC_281, zC_282, zC_284, zC_285, zC_287, zC_288, zC_290, zC_291, zC_293, zC_294, zC_296, zC_297, zC_299, zC_300, zC_302, zC_303, zC_304, zC_305, zC_306, zC_307, zC_308, zC_309, zC_310, zC_311, zC_312, zC_315, zC_316, zC_317, zC_319, zC_320, zC_321, zC_323, zC_324, zC_325, zC_327, zC_328, zC_329, zC_331, zC_332, zC_333, zC_335, zC_336, zC_337, zC_339, zC_340, zC_341, zC_343, zC_344, zC_345, zC_347, zC_348, zC_349, zC_350, zC_351, zC_352, zC_353, zC_354, zC_355, zC_356, zC_357, zC_358, zC_359, zC_361, zC_362, zC_363, zC_364, zC_367, zC_368, zC_369, zC_370, zC_371, zC_372, zC_373, zC_374, zC_375, zC_376, zC_378, zC_380, zC_381, zC_383, zC_384, zC_386, zC_387, zC_389, zC_390, zC_391, zC_392, zC_393, zC_394, zC_395, zC_396, zC_397, zC_398, zC_400, zC_402, zC_403, zC_405, zC_407, zC_409, zC_411, zC_413, zC_415, zC_417, zC_420, zC_421, zC_422, zC_423, zC_424, zC_425, zC_427, zC_429, zC_431, zC_433, zC_436, zC_437, zC_438, zC_439, zC_440, zC_441, zC_442, zC_443, zC_444, zC_445, zC_447, zC_448, zC_450, zC_451, zC_453, zC_454, zC_455, zC_456, zC_457, zC_458, zC_460, zC_461, zC_462, zC_463, zC_464, zC_465, zC_466, zC_467, zC_468, zC_469, zC_471, zC_473, zC_474, zC_476, zC_477, zC_478, zC_479, zC_480, zC_481, zC_482, zC_483, zC_484, zC_485, zC_487, zC_489, zC_490, zC_491, zC_493, zC_495, zC_497, zC_499]
          rw [E1]; exact iteP full hQ
        refine J_LI e40 (J_posL rfl (J_posR (by omega) ?_))
        exact bad _ _ Fz_0 (wBF _)
      have a1 := c_204 (n := n) (tag := 1735162214) (x := 28 + 2 * k) (p := p) E1 (by omega) (by omega)
      refine J_LI a1 (J_negL (by omega) (J_posL rfl ?_))
      have Q1 := ENQ_a (v := 1735162214) ⟨E1, E2, ⟨E3.1, by omega⟩, E4⟩ p0 hp ⟨i0.1, i0.2, by omega⟩ bk fk2 tg
      generalize eh2 : st (st (st (st (st h 420 c 1735162214) 421 c 0) 424 c (28 + 2 * k)) 425 c p) 419 0 (c + 1) = h2
      rw [eh2] at Q1
      have h2c : h2 419 0 = c + 1 := by rw [← eh2, st_eq]
      have h27 : h2 419 7 = h 419 7 := by rw [← eh2, st_nj (by omega), st_na (by omega), st_na (by omega), st_na (by omega), st_na (by omega)]
      have F2 : Fz coC h h2 := by rw [← eh2]; exact Fz_st (Fz_st (Fz_st (Fz_st (Fz_st Fz_0 (by unfold coC; omega)) (by unfold coC; omega)) (by unfold coC; omega)) (by unfold coC; omega)) (by unfold coC; omega)
      rw [exl']
      by_cases full2 : c = 39
      · have e40 : Ev gC 204 [vR 29 419, vL 1819239265, vR 2 (28 + 2 * kl), vI p] n h2 (.inl (some (vI 0))) n h2 := by
          intro Q hQ
          refine T_go (md := true) [some (vR 29 419), some (vL 1819239265), none, some (vR 2 (28 + 2 * kl)), some (vI p)] [] 99 (by decide) rfl (Nat.le_of_ble_eq_true rfl) GC FC rfl k204 ?_
          simp -implicitDefEqProofs only [r_iconst, r_bipush, r_sipush, r_ldc, r_ldc_w, r_lconst, r_ldc2_w, r_aconst_null, r_iload, r_iload_n, r_lload, r_lload_n, r_aload, r_aload_n, r_istore, r_istore_n, r_lstore, r_lstore_n, r_astore, r_astore_n, r_iinc, r_iadd, r_iaddW, r_isub, r_isubW, r_imul, r_imulW, r_ladd, r_laddW, r_lsub, r_lsubW, r_lmul, r_lmulW, r_iand, r_ior, r_ishl, r_ishr, r_iushr, r_land, r_lor, r_lshl, r_lshr, r_lushr, r_idiv, r_irem, r_ldiv, r_lrem, r_lcmp, r_ineg, r_i2l, r_l2i, r_i2b, r_i2s, r_i2c, r_dup, r_pop, r_dup_x1, r_dup_x2, r_dup2, r_dup2L, r_icmp_eq, r_icmp_ne, r_icmp_lt, r_icmp_ge, r_icmp_gt, r_icmp_le, r_if_eq, r_if_ne, r_if_lt, r_if_ge, r_if_gt, r_if_le, r_acmp_eq, r_acmp_ne, r_ifnull, r_ifnonnull, r_goto, r_nop, r_tsw, r_lsw, r_getfield, r_getfinal, r_putfield, r_getstaticL, r_getstaticR, r_iaload, r_baload, r_saload, r_laload, r_aaload, r_aaloadM, r_iastore, r_bastore, r_zastore, r_sastore, r_lastore, r_aastore, r_alen, r_new, r_newarray, r_anewarray, r_invV, r_invI, r_objI, r_invS, r_acp, r_ireturn, r_zreturn, r_lreturn, r_return, r_areturn, r_athrow, ↓e_pI, ↓e_pL, ↓e_pR, ↓e_lg0, ↓e_lg1, ↓e_tk0, ↓e_tkI0, ↓e_tkI1, ↓e_tkI2, ↓e_tkI3, ↓e_tkI4, ↓e_tkL, ↓e_tkR0_0, ↓e_tkR0_1, ↓e_tkR1_0, ↓e_tkR1_1, ↓e_tkR2_0, ↓e_tkR2_1, ↓e_tkR3_0, ↓e_tkR3_1, ↓e_tkR4_0, ↓e_tkR4_1, ↓e_tkR5_0, ↓e_tkR5_1, ↓e_tkR6_0, ↓e_tkR6_1, ↓e_tkR7_0, ↓e_tkR7_1, ↓e_tkR8_0, ↓e_tkR8_1, ↓e_tkR9_0, ↓e_tkR9_1, ↓e_tkR10_0, ↓e_tkR10_1, ↓e_tkR11_0, ↓e_tkR11_1, ↓e_tkR12_0, ↓e_tkR12_1, ↓e_tkR13_0, ↓e_tkR13_1, ↓e_tkR14_0, ↓e_tkR14_1, ↓e_tkR15_0, ↓e_tkR15_1, ↓e_tkR16_0, ↓e_tkR16_1, ↓e_tkR17_0, ↓e_tkR17_1, ↓e_tkR39_0, ↓e_tkR39_1, ↓e_tkR40_0, ↓e_tkR40_1, ↓e_tkR41_0, ↓e_tkR41_1, ↓e_tkR42_0, ↓e_tkR42_1, ↓e_tkR43_0, ↓e_tkR43_1, ↓e_tkR44_0, ↓e_tkR44_1, ↓e_tkR45_0, ↓e_tkR45_1, ↓e_tkR46_0, ↓e_tkR46_1, ↓e_tkR47_0, ↓e_tkR47_1, ↓e_tkR48_0, ↓e_tkR48_1, ↓e_pv0, ↓e_pv1, ↓e_pv2, ↓e_pv3, ↓e_pv5, ↓e_pvR, ↓e_tsw0, ↓e_tsw1, ↓e_lsw0, ↓e_lsw1, e_kq100, e_kq0, e_kq3, e_kq5, e_kqR0, e_kqR1, e_kqR2, e_kqR3, e_kqR4, e_kqR5, e_kqR6, e_kqR7, e_kqR8, e_kqR9, e_kqR10, e_kqR11, e_kqR12, e_kqR13, e_kqR14, e_kqR15, e_kqR16, e_kqR17, e_kqR39, e_kqR40, e_kqR41, e_kqR42, e_kqR43, e_kqR44, e_kqR45, e_kqR46, e_kqR47, e_kqR48, e_st0I, e_st0R, e_st0L, e_st1N, e_st1I, e_st1L, e_st1R, e_st2, e_wd0, e_wdI, e_wdL, e_wdR, e_c1I, e_c1R, e_gv0, e_gv1, e_gv2, e_gv3, e_gv4, e_gv5, e_gvR0, e_gvR1, e_gvR2, e_gvR3, e_gvR4, e_gvR5, e_gvR6, e_gvR7, e_gvR8, e_gvR9, e_gvR10, e_gvR11, e_gvR12, e_gvR13, e_gvR14, e_gvR15, e_gvR16, e_gvR17, e_gvR39, e_gvR40, e_gvR41, e_gvR42, e_gvR43, e_gvR44, e_gvR45, e_gvR46, e_gvR47, e_gvR48, e_kX0, e_kX1, e_kVv, e_kVx, e_kIv, e_kIx, e_kLv, e_kLx, e_kRv, e_kRx, e_thr, e_lk1, e_ic0, e_ic1, e_jm, st_ap, clr_ap, e_lceq, e_lclt, e_lcgt, nn, ↓reduceIte, Nat.reduceDiv, Nat.reduceMod, Nat.reduceMul, Nat.reduceAdd, Nat.reduceEqDiff, Nat.reduceLeDiff, Int.reduceNatCast, Int.cast_ofNat_Int, Int.reduceSub, Int.reduceMul, Int.reduceNeg, Int.reduceAdd, Int.reduceLE, Int.reduceLT, Int.reduceEq, Int.reduceNe, true_and, and_true, true_or, and_self, ne_eq, not_false_eq_true, Bool.false_eq_true, reduceCtorEq, rd_l1, rd_l2, rd_l3, rd_l4, rd_l5, rd_l6, rd_l7, rd_l8, rd_l9, SB, rd_ge, i2b_2, false_and, and_false, not_true_eq_false, l204_0, l204_11, s204_0, s204_11, zC_18, zC_20, zC_21, zC_22, zC_23, zC_25, zC_26, zC_253, zC_254, zC_256, zC_257, zC_259, zC_260, zC_262, zC_263, zC_265, zC_266, zC_268, zC_269, zC_271, zC_272, zC_274, zC_275, zC_278, zC_279, zC_280, zC_281, zC_282, zC_284, zC_285, zC_287, zC_288, zC_290, zC_291, zC_293, zC_294, zC_296, zC_297, zC_299, zC_300, zC_302, zC_303, zC_304, zC_305, zC_306, zC_307, zC_308, zC_309, zC_310, zC_311, zC_312, zC_315, zC_316, zC_317, zC_319, zC_320, zC_321, zC_323, zC_324, zC_325, zC_327, zC_328, zC_329, zC_331, zC_332, zC_333, zC_335, zC_336, zC_337, zC_339, zC_340, zC_341, zC_343, zC_344, zC_345, zC_347, zC_348, zC_349, zC_350, zC_351, zC_352, zC_353, zC_354, zC_355, zC_356, zC_357, zC_358, zC_359, zC_361, zC_362, zC_363, zC_364, zC_367, zC_368, zC_369, zC_370, zC_371, zC_372, zC_373, zC_374, zC_375, zC_376, zC_378, zC_380, zC_381, zC_383, zC_384, zC_386, zC_387, zC_389, zC_390, zC_391, zC_392, zC_393, zC_394, zC_395, zC_396, zC_397, zC_398, zC_400, zC_402, zC_403, zC_405, zC_407, zC_409, zC_411, zC_413, zC_415, zC_417, zC_420, zC_421, zC_422, zC_423, zC_424, zC_425, zC_427, zC_429, zC_431, zC_433, zC_436, zC_437, zC_438, zC_439, zC_440, zC_441, zC_442, zC_443, zC_444, zC_445, zC_447, zC_448, zC_450, zC_451, zC_453, zC_454, zC_455, zC_456, zC_457, zC_458, zC_460, zC_461, zC_462, zC_463, zC_464, zC_465, zC_466, zC_467, zC_468, zC_469, zC_471, zC_473, zC_474, zC_476, zC_477, zC_478, zC_479, zC_480, zC_481, zC_482, zC_483, zC_484, zC_485, zC_487, zC_489, zC_490, zC_491, zC_493, zC_495, zC_497, zC_499]
          rw [h2c]; exact iteP (by omega) hQ
        refine J_LI e40 (J_posL rfl (J_posR (by omega) ?_))
        exact bad _ _ F2 (wBF _)
      have a2 := c_204 (n := n) (tag := 1819239265) (x := 28 + 2 * kl) (p := p) h2c (by omega) (by omega)
      refine J_LI a2 (J_negL (by omega) (J_negR (by omega) ?_))
      have b1 := m_420 (m := m) (w := st w 108 (16 * p + i) (-1)) (p := p) (i := i) (c := c) p0 (by omega) (by rw [st_na (by omega)]; exact E2) (by omega)
      rw [wB5 _ 58 _ (by omega) (by omega), wB5 _ 59 _ (by omega) (by omega), tg] at b1
      refine J_RV b1 ?_
      -- the model's cells behind the first
      have Q1' : ∀ e, 0 ≤ e → e < c + 1 → EN1q β e h2 (st (st (st (st (st w 108 (16 * p + i) (-1)) 102 c 1735162214) 106 c (w 59 (16 * p + i))) 107 c p) 17 128 (c + 1)) := fun e a b => EN1q_t (Q1 e a b) (fun _ _ _ => rfl) ⟨rfl, rfl, rfl, rfl⟩ (fun a j q => by rw [st_na (by omega), st_na (by omega), st_na (by omega), st_na (by omega), st_na (by omega), st_na (by omega), st_na (by omega), st_na (by omega), st_na (by omega)]) (by
        refine ⟨?_, ?_, ?_⟩
        · rw [st_na (by omega), st_na (by omega), st_na (by omega), st_ap, st_na (by omega), st_na (by omega), st_na (by omega), st_na (by omega), st_ap]
        · rw [st_na (by omega), st_na (by omega), st_ap, st_na (by omega), st_na (by omega), st_na (by omega), st_na (by omega), st_ap, st_na (by omega)]
        · rw [st_na (by omega), st_ap, st_na (by omega), st_na (by omega), st_na (by omega), st_na (by omega), st_ap, st_na (by omega), st_na (by omega)])
      generalize ew2 : st (st (st (st (st w 108 (16 * p + i) (-1)) 102 c 1735162214) 106 c (w 59 (16 * p + i))) 107 c p) 17 128 (c + 1) = w2
      rw [ew2] at Q1'
      have w2c : w2 17 128 = c + 1 := by rw [← ew2, st_eq]
      have w25 : ∀ a j, 55 ≤ a → a ≤ 59 → w2 a j = w a j := fun a j x y => by rw [← ew2, st_na (by omega), st_na (by omega), st_na (by omega), st_na (by omega), st_na (by omega)]
      have W2 : Fz coM w w2 := by rw [← ew2]; exact Fz_st (Fz_st (Fz_st (Fz_st (wBF _) (by unfold coM; omega)) (by unfold coM; omega)) (by unfold coM; omega)) (by unfold coM; omega)
      have w26 : ∀ e, w2 106 e = if e = c then w 59 (16 * p + i) else w 106 e := fun e => by
        rw [← ew2, st_na (by omega), st_na (by omega)]
        by_cases q : e = c
        · rw [if_pos q, q, st_eq]
        · rw [if_neg q, st_nj q, st_na (by omega), st_na (by omega)]
      have w22 : ∀ e, w2 102 e = if e = c then 1735162214 else w 102 e := fun e => by
        rw [← ew2, st_na (by omega), st_na (by omega), st_na (by omega)]
        by_cases q : e = c
        · rw [if_pos q, q, st_eq]
        · rw [if_neg q, st_nj q, st_na (by omega)]
      have w28 : ∀ j, j ≠ 16 * p + i → w2 108 j = w 108 j := fun j q => by rw [← ew2, st_na (by omega), st_na (by omega), st_na (by omega), st_na (by omega), st_nj q]
      have b2 := m_420 (m := m) (w := w2) (p := p) (i := rl) (c := c + 1) p0 (by omega) w2c (by omega)
      rw [w25 58 _ (by omega) (by omega), w25 59 _ (by omega) (by omega), rl0.2.2] at b2
      refine J_RV b2 (J_andR idx.1 (J_andR idx.2.1 (J_andR idx.2.2.1 (J_andR idx.2.2.2 (J_andR (by unfold i32; omega) (J_andL (by unfold i32; omega) ?_))))))
      have fz2 : ∀ a j, 28 ≤ a → a ≤ 251 → h2 a j = h a j := fun a j x y => F2 a j (by unfold coC; omega)
      have Q2 := ENQ_a (v := 1819239265) (p := p) (i := rl) (k := kl) ⟨h2c, w2c, ⟨by omega, by omega⟩, Q1'⟩ p0 (by rw [w25 _ _ (by omega) (by omega)]; exact hp) ⟨rl0.1, by rw [w25 _ _ (by omega) (by omega)]; exact rl0.2.1, by omega⟩ (bsy_t fz2 bkl) (by rw [w25 _ _ (by omega) (by omega)]; exact fl2) (by rw [w25 _ _ (by omega) (by omega)]; exact rl0.2.2)
      rw [w25 59 _ (by omega) (by omega)] at Q2
      generalize eh3 : st (st (st (st (st h2 420 (c + 1) 1819239265) 421 (c + 1) 0) 424 (c + 1) (28 + 2 * kl)) 425 (c + 1) p) 419 0 (c + 1 + 1) = h3
      generalize ew3 : st (st (st (st w2 102 (c + 1) 1819239265) 106 (c + 1) (w 59 (16 * p + rl))) 107 (c + 1) p) 17 128 (c + 1 + 1) = w3
      rw [eh3, ew3] at Q2
      have w36 : ∀ e, w3 106 e = if e = c + 1 then w 59 (16 * p + rl) else w2 106 e := fun e => by
        rw [← ew3, st_na (by omega), st_na (by omega)]
        by_cases q : e = c + 1
        · rw [if_pos q, q, st_eq]
        · rw [if_neg q, st_nj q, st_na (by omega)]
      have w32 : ∀ e, w3 102 e = if e = c + 1 then 1819239265 else w2 102 e := fun e => by
        rw [← ew3, st_na (by omega), st_na (by omega), st_na (by omega)]
        by_cases q : e = c + 1
        · rw [if_pos q, q, st_eq]
        · rw [if_neg q, st_nj q]
      have w35 : ∀ a j, 55 ≤ a → a ≤ 59 → w3 a j = w a j := fun a j x y => by rw [← ew3, st_na (by omega), st_na (by omega), st_na (by omega), st_na (by omega)]; exact w25 a j x y
      have EQ3 : ENQ β (c + 1 + 1) h3 w3 := by
        refine ⟨by rw [← eh3, st_eq], by rw [← ew3, st_eq], by omega, Q2, fun e a b => ?_⟩
        have d : ∀ e, w3 102 e = if e = c + 1 then 1819239265 else if e = c then 1735162214 else w 102 e := fun e => by rw [w32, w22]
        rw [d, d, d]
        by_cases q1 : e = c + 1
        · rw [if_pos q1]
          refine ⟨fun z => by omega, fun _ => ⟨by omega, ?_⟩⟩
          rw [if_neg (by omega), if_pos (by omega)]
        rw [if_neg q1]
        by_cases q2 : e = c
        · rw [if_pos q2]
          refine ⟨fun _ => ⟨by omega, ?_⟩, fun z => by omega⟩
          rw [if_pos (by omega)]
        rw [if_neg q2]
        have e9 := E5 e a (by omega)
        refine ⟨fun z => ?_, fun z => ?_⟩
        · have := e9.1 z
          refine ⟨by omega, ?_⟩
          rw [if_neg (by omega), if_neg (by omega)]; exact this.2
        · have := e9.2 z
          refine ⟨this.1, ?_⟩
          rw [if_neg (by omega), if_neg (by omega)]; exact this.2
      refine ok h3 _ (c + 1 + 1) _ _ _ _ _ (ENw EQ3) (by omega) (fun e a b => ?_) ?_ (fun j q => ?_) ?_ ?_ ?_
      · rw [st_na (by omega), w36, if_neg (by omega), w26, if_neg (by omega)]
      · unfold EOK
        rw [st_eq, show st w3 108 (16 * p + i) c 58 = w 58 from funext fun j => by rw [st_na (by omega)]; exact w35 _ _ (by omega) (by omega), show st w3 108 (16 * p + i) c 59 = w 59 from funext fun j => by rw [st_na (by omega)]; exact w35 _ _ (by omega) (by omega), show st w3 108 (16 * p + i) c 57 = w 57 from funext fun j => by rw [st_na (by omega)]; exact w35 _ _ (by omega) (by omega)]
        refine ⟨fun _ j a b z => ⟨E3.1, ?_⟩, fun z => by omega, fun z => absurd tg z⟩
        rw [uq j a b z]
        refine Or.inr ⟨by omega, ⟨?_, by omega, ?_⟩, fun e a b z => ?_⟩
        · rw [st_na (by omega), w36, if_neg (by omega), w26, if_pos rfl]
        · rw [st_na (by omega), w36, if_pos rfl]
        · have z1 := z.1
          have z3 := z.2.2
          rw [st_na (by omega), w36, if_neg (by omega), w26, if_neg (by omega)] at z1
          rw [st_na (by omega), w36, if_neg (by omega), w26] at z3
          by_cases q : e + 1 = c
          · rw [if_pos q] at z3; exact ne z3
          · rw [if_neg q] at z3
            exact r2 e a b ⟨z1, by omega, z3⟩
      · rw [st_nj q, ← ew3, st_na (by omega), st_na (by omega), st_na (by omega), st_na (by omega)]; exact w28 j q
      · rw [← eh3, st_nj (by omega), st_na (by omega), st_na (by omega), st_na (by omega), st_na (by omega)]; exact h27
      · rw [← eh3]; exact Fz_st (Fz_st (Fz_st (Fz_st (Fz_st F2 (by unfold coC; omega)) (by unfold coC; omega)) (by unfold coC; omega)) (by unfold coC; omega)) (by unfold coC; omega)
      · rw [← ew3]; exact Fz_st (Fz_st (Fz_st (Fz_st (Fz_st W2 (by unfold coM; omega)) (by unfold coM; omega)) (by unfold coM; omega)) (by unfold coM; omega)) (by unfold coM; omega)
    · -- it is known
      refine J_negL (by omega) (J_negR (by omega) (J_andL (by unfold i32; omega) ?_))
      refine J_andR idx.1 (J_andR idx.2.1 (J_andR idx.2.2.1 (J_andR idx.2.2.2 (J_andR (by unfold i32; omega) ?_))))
      refine ok h _ c _ _ _ _ _ (ENw (ENw E)) (Int.le_refl _) (fun e a b => by rw [st_na (by omega), st_na (by omega)]) ?_ (fun j q => by rw [st_nj q, st_nj q]) rfl Fz_0 (Fz_st (wBF _) (by unfold coM; omega))
      unfold EOK
      rw [st_eq]
      rw [show st (st w 108 (16 * p + i) (-1)) 108 (16 * p + i) r 58 = w 58 from funext fun j => by rw [st_na (by omega), st_na (by omega)], show st (st w 108 (16 * p + i) (-1)) 108 (16 * p + i) r 59 = w 59 from funext fun j => by rw [st_na (by omega), st_na (by omega)], show st (st w 108 (16 * p + i) (-1)) 108 (16 * p + i) r 57 = w 57 from funext fun j => by rw [st_na (by omega), st_na (by omega)], show st (st w 108 (16 * p + i) (-1)) 108 (16 * p + i) r 106 = w 106 from funext fun j => by rw [st_na (by omega), st_na (by omega)]]
      refine ⟨fun _ j a b z => ⟨r1.1, ?_⟩, fun z => by omega, fun z => absurd tg z⟩
      rw [uq j a b z]
      exact Or.inr ⟨r1, r2, r3⟩
  refine J_negR tg ?_
  by_cases tl : w 58 (16 * p + i) = 1819239265
  · -- a loca
    obtain ⟨jg, jg0, jg1⟩ := gl.2 ⟨i, i0, tl⟩
    obtain ⟨rg, Fg⟩ := fds_ex (fun j => w 58 (16 * p + j)) 1735162214 f6
    have rg0 : 0 ≤ rg ∧ rg < w 57 p ∧ w 58 (16 * p + rg) = 1735162214 := by
      rcases Fg with ⟨-, q⟩ | ⟨a, b, c, -⟩
      · exact absurd jg1 (q jg jg0.1 jg0.2)
      · exact ⟨a, b, c⟩
    have lt : rg < i := by
      apply Classical.byContradiction
      intro nl
      by_cases e : rg = i
      · rw [e, tl] at rg0; omega
      · have := tg_up up i0.1 (show i < rg by omega) rg0.2.1
        have z : w 58 (16 * p + i) < w 58 (16 * p + rg) := this
        omega
    have mtg := m_tableOf (m := m) (w := st w 108 (16 * p + i) (-1)) (p := p) (v := 1735162214) (r := rg) (by omega) (by rw [show (fun j => st w 108 (16 * p + i) (-1) 58 (16 * p + j)) = fun j => w 58 (16 * p + j) from funext fun j => wB5 _ _ _ (by omega) (by omega), wB5 _ _ _ (by omega) (by omega)]; exact Fg) (by rw [wB5 _ _ _ (by omega) (by omega)]; exact ⟨f6, f7⟩)
    obtain ⟨kr, kf⟩ := (K rg rg0.1 lt).1 rg0.2.2 i i0.1 i0.2 tl
    have kc : w 108 (16 * p + rg) < c := by
      rcases kf with ⟨a, -⟩ | ⟨a, -⟩ <;> omega
    have e8 : st w 108 (16 * p + i) (-1) 108 (16 * p + rg) = w 108 (16 * p + rg) := st_nj (by omega)
    have uq : ∀ j, 0 ≤ j → j < w 57 p → w 58 (16 * p + j) = 1735162214 → j = rg := fun j a b z => tg_eq up ⟨a, b⟩ ⟨rg0.1, rg0.2.1⟩ (by show w 58 _ = w 58 _; rw [z, rg0.2.2])
    rw [tl]
    refine J_negL (by omega) (J_posL rfl (J_andL (by unfold i32; omega) ?_))
    refine J_posR rfl (J_andR idx.1 (J_andR idx.2.1 (J_andR idx.1 (J_RI mtg ?_))))
    rw [e8]
    refine J_andR (by unfold i32; omega) (J_andR (by omega) (J_andR (by omega) (J_andR (by unfold i32; omega) (J_andR idx.2.2.1 (J_andR idx.2.2.2 (J_andR (by unfold i32; omega) ?_))))))
    refine ok h _ c _ _ _ _ _ (ENw (ENw E)) (Int.le_refl _) (fun e a b => by rw [st_na (by omega), st_na (by omega)]) ?_ (fun j q => by rw [st_nj q, st_nj q]) rfl Fz_0 (Fz_st (wBF _) (by unfold coM; omega))
    unfold EOK
    rw [st_eq]
    generalize w 108 (16 * p + rg) = r at kr kf kc ⊢
    rw [show st (st w 108 (16 * p + i) (-1)) 108 (16 * p + i) (r + 1) 58 = w 58 from funext fun j => by rw [st_na (by omega), st_na (by omega)], show st (st w 108 (16 * p + i) (-1)) 108 (16 * p + i) (r + 1) 59 = w 59 from funext fun j => by rw [st_na (by omega), st_na (by omega)], show st (st w 108 (16 * p + i) (-1)) 108 (16 * p + i) (r + 1) 57 = w 57 from funext fun j => by rw [st_na (by omega), st_na (by omega)], show st (st w 108 (16 * p + i) (-1)) 108 (16 * p + i) (r + 1) 106 = w 106 from funext fun j => by rw [st_na (by omega), st_na (by omega)]]
    refine ⟨fun z => absurd z tg, fun _ j a b z => ⟨by omega, ?_⟩, fun _ z => absurd tl z⟩
    rw [uq j a b z, show r + 1 - 1 = r by omega]
    exact kf
  refine J_negR tl ?_
  by_cases td : w 58 (16 * p + i) = 1146308935
  · -- a signature
    refine J_posL td (J_andL (by unfold i32; omega) (J_posR td (J_andR (by unfold i32; omega) ?_)))
    refine ok h _ c _ _ _ _ _ (ENw E) (Int.le_refl _) (fun e a b => by rw [st_na (by omega)]) ?_ (fun j q => by rw [st_nj q]) rfl Fz_0 (wBF _)
    unfold EOK
    rw [wB5 _ 58 _ (by omega) (by omega)]
    exact ⟨fun z => absurd z tg, fun z => absurd z tl, fun _ _ z => absurd td z⟩
  -- another table
  obtain ⟨r, FR⟩ := fst_ex (fun e => w 106 e = w 59 (16 * p + i)) c
  have FH : FST (fun e => h 420 e = w 58 (16 * p + i) ∧ h 424 e = 28 + 2 * k ∧ (w 58 (16 * p + i) = 1735162214 → h 424 (e + 1) = xl) ∧ (w 58 (16 * p + i) = 1819239265 → h 424 (e - 1) = xl)) c r := FST_c FR (fun e a b => by
    constructor
    · intro z1
      exact ⟨by rw [(E4 e a b).1, (eq1 e ⟨a, b⟩).2 z1], (eq1 e ⟨a, b⟩).1.2 z1, fun z => absurd z tg, fun z => absurd z tl⟩
    · rintro ⟨z1, z2, -, -⟩
      exact (eq1 e ⟨a, b⟩).1.1 z2)
  have FM : FST (fun e => st w 108 (16 * p + i) (-1) 106 e = w 59 (16 * p + i) ∧ ((-1 : Int) < 0 ∨ (e + 1 < c ∧ st w 108 (16 * p + i) (-1) 106 (e + 1) = -1))) c r := FST_c FR (fun e a b => by
    rw [st_na (by omega)]
    exact ⟨fun z => ⟨z, Or.inl (by omega)⟩, fun z => z.1⟩)
  have c203 := c_203 (n := n) (h := h) E1 E3 glh loh FH
  have m419 := m_419 (m := m) (w := st w 108 (16 * p + i) (-1)) (by rw [st_na (by omega)]; exact E2) E3 FM
  refine J_negL td (J_negL tl (J_andL (by omega) (J_andL i0.1 (J_andL (by omega) ?_))))
  rw [fk1]
  refine J_LI c203 ?_
  refine J_negR td (J_andR idx.1 (J_andR idx.2.1 (J_andR idx.2.2.1 (J_andR idx.2.2.2 (J_RI m419 ?_)))))
  rcases FR with ⟨r1, r2⟩ | ⟨r1, r2, r3⟩
  · refine J_posL (by omega) (J_posR (by omega) ?_)
    rw [st_na (by omega), E2]
    refine J_andL (by omega) (J_andL i0.1 (J_andL (by omega) ?_))
    rw [fk1]
    by_cases full : c = 40
    · have e40 : Ev gC 204 [vR 29 419, vL (w 58 (16 * p + i)), vR 2 (28 + 2 * k), vI p] n h (.inl (some (vI 0))) n h := by
        intro Q hQ
        refine T_go (md := true) [some (vR 29 419), some (vL (w 58 (16 * p + i))), none, some (vR 2 (28 + 2 * k)), some (vI p)] [] 99 (by decide) rfl (Nat.le_of_ble_eq_true rfl) GC FC rfl k204 ?_
        simp -implicitDefEqProofs only [r_iconst, r_bipush, r_sipush, r_ldc, r_ldc_w, r_lconst, r_ldc2_w, r_aconst_null, r_iload, r_iload_n, r_lload, r_lload_n, r_aload, r_aload_n, r_istore, r_istore_n, r_lstore, r_lstore_n, r_astore, r_astore_n, r_iinc, r_iadd, r_iaddW, r_isub, r_isubW, r_imul, r_imulW, r_ladd, r_laddW, r_lsub, r_lsubW, r_lmul, r_lmulW, r_iand, r_ior, r_ishl, r_ishr, r_iushr, r_land, r_lor, r_lshl, r_lshr, r_lushr, r_idiv, r_irem, r_ldiv, r_lrem, r_lcmp, r_ineg, r_i2l, r_l2i, r_i2b, r_i2s, r_i2c, r_dup, r_pop, r_dup_x1, r_dup_x2, r_dup2, r_dup2L, r_icmp_eq, r_icmp_ne, r_icmp_lt, r_icmp_ge, r_icmp_gt, r_icmp_le, r_if_eq, r_if_ne, r_if_lt, r_if_ge, r_if_gt, r_if_le, r_acmp_eq, r_acmp_ne, r_ifnull, r_ifnonnull, r_goto, r_nop, r_tsw, r_lsw, r_getfield, r_getfinal, r_putfield, r_getstaticL, r_getstaticR, r_iaload, r_baload, r_saload, r_laload, r_aaload, r_aaloadM, r_iastore, r_bastore, r_zastore, r_sastore, r_lastore, r_aastore, r_alen, r_new, r_newarray, r_anewarray, r_invV, r_invI, r_objI, r_invS, r_acp, r_ireturn, r_zreturn, r_lreturn, r_return, r_areturn, r_athrow, ↓e_pI, ↓e_pL, ↓e_pR, ↓e_lg0, ↓e_lg1, ↓e_tk0, ↓e_tkI0, ↓e_tkI1, ↓e_tkI2, ↓e_tkI3, ↓e_tkI4, ↓e_tkL, ↓e_tkR0_0, ↓e_tkR0_1, ↓e_tkR1_0, ↓e_tkR1_1, ↓e_tkR2_0, ↓e_tkR2_1, ↓e_tkR3_0, ↓e_tkR3_1, ↓e_tkR4_0, ↓e_tkR4_1, ↓e_tkR5_0, ↓e_tkR5_1, ↓e_tkR6_0, ↓e_tkR6_1, ↓e_tkR7_0, ↓e_tkR7_1, ↓e_tkR8_0, ↓e_tkR8_1, ↓e_tkR9_0, ↓e_tkR9_1, ↓e_tkR10_0, ↓e_tkR10_1, ↓e_tkR11_0, ↓e_tkR11_1, ↓e_tkR12_0, ↓e_tkR12_1, ↓e_tkR13_0, ↓e_tkR13_1, ↓e_tkR14_0, ↓e_tkR14_1, ↓e_tkR15_0, ↓e_tkR15_1, ↓e_tkR16_0, ↓e_tkR16_1, ↓e_tkR17_0, ↓e_tkR17_1, ↓e_tkR39_0, ↓e_tkR39_1, ↓e_tkR40_0, ↓e_tkR40_1, ↓e_tkR41_0, ↓e_tkR41_1, ↓e_tkR42_0, ↓e_tkR42_1, ↓e_tkR43_0, ↓e_tkR43_1, ↓e_tkR44_0, ↓e_tkR44_1, ↓e_tkR45_0, ↓e_tkR45_1, ↓e_tkR46_0, ↓e_tkR46_1, ↓e_tkR47_0, ↓e_tkR47_1, ↓e_tkR48_0, ↓e_tkR48_1, ↓e_pv0, ↓e_pv1, ↓e_pv2, ↓e_pv3, ↓e_pv5, ↓e_pvR, ↓e_tsw0, ↓e_tsw1, ↓e_lsw0, ↓e_lsw1, e_kq100, e_kq0, e_kq3, e_kq5, e_kqR0, e_kqR1, e_kqR2, e_kqR3, e_kqR4, e_kqR5, e_kqR6, e_kqR7, e_kqR8, e_kqR9, e_kqR10, e_kqR11, e_kqR12, e_kqR13, e_kqR14, e_kqR15, e_kqR16, e_kqR17, e_kqR39, e_kqR40, e_kqR41, e_kqR42, e_kqR43, e_kqR44, e_kqR45, e_kqR46, e_kqR47, e_kqR48, e_st0I, e_st0R, e_st0L, e_st1N, e_st1I, e_st1L, e_st1R, e_st2, e_wd0, e_wdI, e_wdL, e_wdR, e_c1I, e_c1R, e_gv0, e_gv1, e_gv2, e_gv3, e_gv4, e_gv5, e_gvR0, e_gvR1, e_gvR2, e_gvR3, e_gvR4, e_gvR5, e_gvR6, e_gvR7, e_gvR8, e_gvR9, e_gvR10, e_gvR11, e_gvR12, e_gvR13, e_gvR14, e_gvR15, e_gvR16, e_gvR17, e_gvR39, e_gvR40, e_gvR41, e_gvR42, e_gvR43, e_gvR44, e_gvR45, e_gvR46, e_gvR47, e_gvR48, e_kX0, e_kX1, e_kVv, e_kVx, e_kIv, e_kIx, e_kLv, e_kLx, e_kRv, e_kRx, e_thr, e_lk1, e_ic0, e_ic1, e_jm, st_ap, clr_ap, e_lceq, e_lclt, e_lcgt, nn, ↓reduceIte, Nat.reduceDiv, Nat.reduceMod, Nat.reduceMul, Nat.reduceAdd, Nat.reduceEqDiff, Nat.reduceLeDiff, Int.reduceNatCast, Int.cast_ofNat_Int, Int.reduceSub, Int.reduceMul, Int.reduceNeg, Int.reduceAdd, Int.reduceLE, Int.reduceLT, Int.reduceEq, Int.reduceNe, true_and, and_true, true_or, and_self, ne_eq, not_false_eq_true, Bool.false_eq_true, reduceCtorEq, rd_l1, rd_l2, rd_l3, rd_l4, rd_l5, rd_l6, rd_l7, rd_l8, rd_l9, SB, rd_ge, i2b_2, false_and, and_false, not_true_eq_false, l204_0, l204_11, s204_0, s204_11, zC_18, zC_20, zC_21, zC_22, zC_23, zC_25, zC_26, zC_253, zC_254, zC_256, zC_257, zC_259, zC_260, zC_262, zC_263, zC_265, zC_266, zC_268, zC_269, zC_271, zC_272, zC_274, zC_275, zC_278, zC_279, zC_280, zC_281, zC_282, zC_284, zC_285, zC_287, zC_288, zC_290, zC_291, zC_293, zC_294, zC_296, zC_297, zC_299, zC_300, zC_302, zC_303, zC_304, zC_305, zC_306, zC_307, zC_308, zC_309, zC_310, zC_311, zC_312, zC_315, zC_316, zC_317, zC_319, zC_320, zC_321, zC_323, zC_324, zC_325, zC_327, zC_328, zC_329, zC_331, zC_332, zC_333, zC_335, zC_336, zC_337, zC_339, zC_340, zC_341, zC_343, zC_344, zC_345, zC_347, zC_348, zC_349, zC_350, zC_351, zC_352, zC_353, zC_354, zC_355, zC_356, zC_357, zC_358, zC_359, zC_361, zC_362, zC_363, zC_364, zC_367, zC_368, zC_369, zC_370, zC_371, zC_372, zC_373, zC_374, zC_375, zC_376, zC_378, zC_380, zC_381, zC_383, zC_384, zC_386, zC_387, zC_389, zC_390, zC_391, zC_392, zC_393, zC_394, zC_395, zC_396, zC_397, zC_398, zC_400, zC_402, zC_403, zC_405, zC_407, zC_409, zC_411, zC_413, zC_415, zC_417, zC_420, zC_421, zC_422, zC_423, zC_424, zC_425, zC_427, zC_429, zC_431, zC_433, zC_436, zC_437, zC_438, zC_439, zC_440, zC_441, zC_442, zC_443, zC_444, zC_445, zC_447, zC_448, zC_450, zC_451, zC_453, zC_454, zC_455, zC_456, zC_457, zC_458, zC_460, zC_461, zC_462, zC_463, zC_464, zC_465, zC_466, zC_467, zC_468, zC_469, zC_471, zC_473, zC_474, zC_476, zC_477, zC_478, zC_479, zC_480, zC_481, zC_482, zC_483, zC_484, zC_485, zC_487, zC_489, zC_490, zC_491, zC_493, zC_495, zC_497, zC_499]
        rw [E1]; exact iteP full hQ
      refine J_LI e40 (J_posL rfl (J_posR (by omega) ?_))
      exact bad _ _ Fz_0 (wBF _)
    have a1 := c_204 (n := n) (tag := w 58 (16 * p + i)) (x := 28 + 2 * k) (p := p) E1 (by omega) (by omega)
    refine J_LI a1 (J_negL (by omega) (J_negL tg (J_andL (by unfold i32; omega) (J_negR (by omega) ?_))))
    have Q1 := ENQ_a (v := w 58 (16 * p + i)) ⟨E1, E2, ⟨E3.1, by omega⟩, E4⟩ p0 hp ⟨i0.1, i0.2, by omega⟩ bk fk2 rfl
    have b1 := m_420 (m := m) (w := st w 108 (16 * p + i) (-1)) (p := p) (i := i) (c := c) p0 (by omega) (by rw [st_na (by omega)]; exact E2) (by omega)
    rw [wB5 _ 58 _ (by omega) (by omega), wB5 _ 59 _ (by omega) (by omega)] at b1
    refine J_RV b1 (J_andR idx.1 (J_andR idx.2.1 (J_andR idx.2.2.1 (J_andR idx.2.2.2 (J_andR (by unfold i32; omega) ?_)))))
    generalize eh2 : st (st (st (st (st h 420 c (w 58 (16 * p + i))) 421 c 0) 424 c (28 + 2 * k)) 425 c p) 419 0 (c + 1) = h2
    rw [eh2] at Q1
    have Q1' : ∀ e, 0 ≤ e → e < c + 1 → EN1q β e h2 (st (st (st (st (st w 108 (16 * p + i) (-1)) 102 c (w 58 (16 * p + i))) 106 c (w 59 (16 * p + i))) 107 c p) 17 128 (c + 1)) := fun e a b => EN1q_t (Q1 e a b) (fun _ _ _ => rfl) ⟨rfl, rfl, rfl, rfl⟩ (fun a j q => by rw [st_na (by omega), st_na (by omega), st_na (by omega), st_na (by omega), st_na (by omega), st_na (by omega), st_na (by omega), st_na (by omega), st_na (by omega)]) (by
      refine ⟨?_, ?_, ?_⟩
      · rw [st_na (by omega), st_na (by omega), st_na (by omega), st_ap, st_na (by omega), st_na (by omega), st_na (by omega), st_na (by omega), st_ap]
      · rw [st_na (by omega), st_na (by omega), st_ap, st_na (by omega), st_na (by omega), st_na (by omega), st_na (by omega), st_ap, st_na (by omega)]
      · rw [st_na (by omega), st_ap, st_na (by omega), st_na (by omega), st_na (by omega), st_na (by omega), st_ap, st_na (by omega), st_na (by omega)])
    generalize ew2 : st (st (st (st (st w 108 (16 * p + i) (-1)) 102 c (w 58 (16 * p + i))) 106 c (w 59 (16 * p + i))) 107 c p) 17 128 (c + 1) = w2
    rw [ew2] at Q1'
    have w25 : ∀ a j, 55 ≤ a → a ≤ 59 → w2 a j = w a j := fun a j x y => by rw [← ew2, st_na (by omega), st_na (by omega), st_na (by omega), st_na (by omega), st_na (by omega)]
    have w26 : ∀ e, w2 106 e = if e = c then w 59 (16 * p + i) else w 106 e := fun e => by
      rw [← ew2, st_na (by omega), st_na (by omega)]
      by_cases q : e = c
      · rw [if_pos q, q, st_eq]
      · rw [if_neg q, st_nj q, st_na (by omega), st_na (by omega)]
    have w22 : ∀ e, w2 102 e = if e = c then w 58 (16 * p + i) else w 102 e := fun e => by
      rw [← ew2, st_na (by omega), st_na (by omega), st_na (by omega)]
      by_cases q : e = c
      · rw [if_pos q, q, st_eq]
      · rw [if_neg q, st_nj q, st_na (by omega)]
    have EQ2 : ENQ β (c + 1) h2 w2 := by
      refine ⟨by rw [← eh2, st_eq], by rw [← ew2, st_eq], by omega, Q1', fun e a b => ?_⟩
      rw [w22, w22, w22]
      by_cases q2 : e = c
      · rw [if_pos q2]
        exact ⟨fun z => absurd z tg, fun z => absurd z tl⟩
      rw [if_neg q2]
      have e9 := E5 e a (by omega)
      refine ⟨fun z => ?_, fun z => ?_⟩
      · have := e9.1 z
        refine ⟨by omega, ?_⟩
        rw [if_neg (by omega)]; exact this.2
      · have := e9.2 z
        refine ⟨this.1, ?_⟩
        rw [if_neg (by omega)]; exact this.2
    refine ok h2 _ (c + 1) _ _ _ _ _ (ENw EQ2) (by omega) (fun e a b => ?_) ?_ (fun j q => ?_) ?_ ?_ ?_
    · rw [st_na (by omega), w26, if_neg (by omega)]
    · unfold EOK
      rw [st_eq, show st w2 108 (16 * p + i) c 58 = w 58 from funext fun j => by rw [st_na (by omega)]; exact w25 _ _ (by omega) (by omega), show st w2 108 (16 * p + i) c 59 = w 59 from funext fun j => by rw [st_na (by omega)]; exact w25 _ _ (by omega) (by omega)]
      refine ⟨fun z => absurd z tg, fun z => absurd z tl, fun _ _ _ => ⟨E3.1, Or.inr ⟨by omega, ?_, fun e a b z => ?_⟩⟩⟩
      · show st w2 108 (16 * p + i) c 106 c = _
        rw [st_na (by omega), w26, if_pos rfl]
      · have z' : st w2 108 (16 * p + i) c 106 e = w 59 (16 * p + i) := z
        rw [st_na (by omega), w26, if_neg (by omega)] at z'
        exact r2 e a b z'
    · rw [st_nj q, ← ew2, st_na (by omega), st_na (by omega), st_na (by omega), st_na (by omega), st_nj q]
    · rw [← eh2, st_nj (by omega), st_na (by omega), st_na (by omega), st_na (by omega), st_na (by omega)]
    · rw [← eh2]; exact Fz_st (Fz_st (Fz_st (Fz_st (Fz_st Fz_0 (by unfold coC; omega)) (by unfold coC; omega)) (by unfold coC; omega)) (by unfold coC; omega)) (by unfold coC; omega)
    · rw [← ew2]; exact Fz_st (Fz_st (Fz_st (Fz_st (Fz_st (wBF _) (by unfold coM; omega)) (by unfold coM; omega)) (by unfold coM; omega)) (by unfold coM; omega)) (by unfold coM; omega)
  · refine J_negL (by omega) (J_negR (by omega) (J_andL (by unfold i32; omega) ?_))
    refine J_andR idx.1 (J_andR idx.2.1 (J_andR idx.2.2.1 (J_andR idx.2.2.2 (J_andR (by unfold i32; omega) ?_))))
    refine ok h _ c _ _ _ _ _ (ENw (ENw E)) (Int.le_refl _) (fun e a b => by rw [st_na (by omega), st_na (by omega)]) ?_ (fun j q => by rw [st_nj q, st_nj q]) rfl Fz_0 (Fz_st (wBF _) (by unfold coM; omega))
    unfold EOK
    rw [st_eq]
    rw [show st (st w 108 (16 * p + i) (-1)) 108 (16 * p + i) r 58 = w 58 from funext fun j => by rw [st_na (by omega), st_na (by omega)], show st (st w 108 (16 * p + i) (-1)) 108 (16 * p + i) r 59 = w 59 from funext fun j => by rw [st_na (by omega), st_na (by omega)], show st (st w 108 (16 * p + i) (-1)) 108 (16 * p + i) r 106 = w 106 from funext fun j => by rw [st_na (by omega), st_na (by omega)]]
    exact ⟨fun z => absurd z tg, fun z => absurd z tl, fun _ _ _ => ⟨r1.1, Or.inr ⟨r1, r2, r3⟩⟩⟩
end
