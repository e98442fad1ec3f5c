set_option maxRecDepth 100000
theorem slc_ap (g : Int → Int) (f : Int) (a : Nat) : ∀ b : Nat, slc g f a ++ slc g (f + a) b = slc g f (a + b) := by
  intro b
  induction b with
  | zero => rw [slc, List.append_nil, Nat.add_zero]
  | succ b ih => rw [slc, ← List.append_assoc, ih, ← Nat.add_assoc, slc, show f + ((a + b : Nat) : Int) = f + a + b by omega]
theorem slc_ai {g : Int → Int} {f a b : Int} (a0 : 0 ≤ a) (b0 : 0 ≤ b) : slc g f a.toNat ++ slc g (f + a) b.toNat = slc g f (a + b).toNat := by
  have := slc_ap g f a.toNat b.toNat
  rw [show ((a.toNat : Nat) : Int) = a by omega, show a.toNat + b.toNat = (a + b).toNat by omega] at this
  exact this
/-- what laying a glyph needs of the view -/
def LVW (kl kg al fm N Ng : Int) (fl fg : Int → Int) (h : Mem) : Prop := ((0 ≤ kl ∧ kl < 112) ∧ 0 ≤ kg ∧ kg < 112) ∧ (h 365 7 = 28 + 2 * kl ∧ h 365 8 = 28 + 2 * kg ∧ h 365 2 = fm ∧ (fm = 0 ∨ fm = 1)) ∧ (1 ≤ al ∧ al ≤ 64) ∧ N = (al + 1) * (if fm = 0 then 2 else 4) ∧ (0 ≤ Ng ∧ Ng ≤ 12000) ∧ LOK al fm Ng fl ∧ (∀ j, 0 ≤ j → j < N → h (29 + 2 * kl) j = fl j) ∧ ∀ j, 0 ≤ j → j < Ng → h (29 + 2 * kg) j = fg j
theorem LVW_t {kl kg al fm N Ng k1 k2 : Int} {fl fg : Int → Int} {h h1 : Mem} (V : LVW kl kg al fm N Ng fl fg h) (n1 : k1 ≠ kl ∧ k1 ≠ kg) (n2 : k2 ≠ kl ∧ k2 ≠ kg) (F : ∀ a j, a ≠ 28 + 2 * k1 → a ≠ 29 + 2 * k1 → a ≠ 28 + 2 * k2 → a ≠ 29 + 2 * k2 → (28 ≤ a ∧ a ≤ 251) ∨ a = 365 → h1 a j = h a j) (k10 : 0 ≤ k1 ∧ k1 < 112) (k20 : 0 ≤ k2 ∧ k2 < 112) : LVW kl kg al fm N Ng fl fg h1 := by
  obtain ⟨v1, v2, v3, v4, v5, v6, v7, v8⟩ := V
  refine ⟨v1, ?_, v3, v4, v5, v6, fun j a b => ?_, fun j a b => ?_⟩
  · rw [F 365 7 (by omega) (by omega) (by omega) (by omega) (by omega), F 365 8 (by omega) (by omega) (by omega) (by omega) (by omega), F 365 2 (by omega) (by omega) (by omega) (by omega) (by omega)]; exact v2
  · rw [F _ _ (by omega) (by omega) (by omega) (by omega) (by omega)]; exact v7 j a b
  · rw [F _ _ (by omega) (by omega) (by omega) (by omega) (by omega)]; exact v8 j a b
theorem lok_r {al fm Ng : Int} {fl : Int → Int} (L : LOK al fm Ng fl) (al0 : 1 ≤ al) {k : Int} (k0 : 0 ≤ k) (k1 : k ≤ al) : 0 ≤ lov fm fl k ∧ lov fm fl k ≤ Ng ∧ (k < al → lov fm fl k ≤ lov fm fl (k + 1)) := by
  have h1 := lov_r fm fl k
  have h2 := LOK_m L (al - k).toNat k k0 (by omega)
  refine ⟨h1.1, h2, fun q => ?_⟩
  have := L.2.1 (k + 1) (by omega) (by omega)
  rw [show k + 1 - 1 = k by omega] at this
  exact this
def l2C (k1 k2 a j : Int) : Prop := (a = 28 + 2 * k1 ∧ (j = 1 ∨ j = 2)) ∨ a = 29 + 2 * k1 ∨ (a = 28 + 2 * k2 ∧ j = 1) ∨ a = 29 + 2 * k2
section
variable {A B : Qt → Prop} {Φ : Out → Int → Mem → Out → Int → Mem → Prop} {KL KM : Qt → Qt} {n m : Int} {h w : Mem}
theorem LVW_b {kl kg al fm N Ng : Int} {fl fg : Int → Int} (V : LVW kl kg al fm N Ng fl fg h) {k : Int} (k0 : 0 ≤ k) (k1 : k ≤ al) : Ev gC 149 [vR 21 365, vI k] n h (.inl (some (vI (lov fm fl k)))) n h := by
  obtain ⟨v1, v2, v3, v4, v5, v6, v7, v8⟩ := V
  have r := lok_r v6 v3.1 k0 k1
  have e := c_begin (n := n) (h := h) (f := fl) (k := kl) (g := k) (fm := fm) (N := N) v1.1 v2.1 v2.2.2.1 k0 (by
    rcases v2.2.2.2 with q | q
    · rw [if_pos q] at v4; omega
    · rw [if_neg (by omega)] at v4; omega) v7
  rw [wr_id (by constructor <;> omega)] at e
  exact e
/-- one glyph that stays: 98@109 -/
theorem c_lst {p g x3 nnn k1 k2 kl kg al fm N Ng k : Int} {fl fg : Int → Int} {L M : List Int} {o8 o9 o10 : Option V} (V : LVW kl kg al fm N Ng fl fg h) (k10 : 0 ≤ k1 ∧ k1 < 112) (k20 : 0 ≤ k2 ∧ k2 < 112) (n12 : k1 ≠ k2) (n1 : k1 ≠ kl ∧ k1 ≠ kg) (n2 : k2 ≠ kl ∧ k2 ≠ kg) (kk : 0 ≤ k ∧ k < al) (kn : k < nnn) (kg' : k ≠ g) (BG1 : BG h (28 + 2 * k1) 12000 L) (BL2 : BL h (28 + 2 * k2) M) (ml : (M.length : Int) ≤ 400)
    (fin : ∀ (h1 : Mem) (s : Int), BG h1 (28 + 2 * k1) 12000 (L ++ slc fg (lov fm fl k) (lov fm fl (k + 1) - lov fm fl k).toNat) → h1 (28 + 2 * k1) 1 = s → BL h1 (28 + 2 * k2) (M ++ lcb fm s) → Fz (l2C k1 k2) h h1 → J2 (fun Q => T_at gC 98 109 [some (vR 1 17), some (vI p), some (vI g), some (vI x3), some (vI nnn), some (vR 2 (28 + 2 * k1)), some (vR 2 (28 + 2 * k2)), some (vI (k + 1)), o8, o9, o10] [] n h1 (KL Q)) B Φ) :
    J2 (fun Q => T_at gC 98 109 [some (vR 1 17), some (vI p), some (vI g), some (vI x3), some (vI nnn), some (vR 2 (28 + 2 * k1)), some (vR 2 (28 + 2 * k2)), some (vI k), o8, o9, o10] [] n h (KL Q)) B Φ := by
  obtain ⟨v1, v2, v3, v4, v5, v6, v7, v8⟩ := id V
  have z1 := bsz k10
  have z2 := bsz k20
  have zg := bsz v1.2
  have r1 := lok_r v6 v3.1 kk.1 (by omega)
  have r2 := lok_r v6 v3.1 (k := k + 1) (by omega) (by omega)
  have le := r1.2.2 kk.2
  obtain ⟨h1, e1, B1, F1⟩ := c_appG (n := n) (o := 28 + 2 * k1) (c := 12000) (p := 28 + 2 * kg) (f := lov fm fl k) (k := lov fm fl (k + 1) - lov fm fl k) (by rw [show 28 + 2 * k1 + 1 = 29 + 2 * k1 by omega, z1]; rfl) (by omega) (by omega) (by omega) (by omega) (by omega) (by omega) (by rw [show 28 + 2 * kg + 1 = 29 + 2 * kg by omega, zg]; omega) BG1
  have sl : slc (h (28 + 2 * kg + 1)) (lov fm fl k) (lov fm fl (k + 1) - lov fm fl k).toNat = slc fg (lov fm fl k) (lov fm fl (k + 1) - lov fm fl k).toNat := slc_c (fun i hi => by
    rw [show 28 + 2 * kg + 1 = 29 + 2 * kg by omega]; exact v8 _ (by omega) (by omega))
  rw [sl] at B1
  have F1' : ∀ a j, ¬ (a = 28 + 2 * k1 ∧ (j = 1 ∨ j = 2)) → a ≠ 29 + 2 * k1 → h1 a j = h a j := fun a j x y => F1 a j (by unfold bgF; omega)
  have bs := BG_s B1
  obtain ⟨h2, e2, B2, F2⟩ := c_178 (n := n) (h := h1) (o := 28 + 2 * k2) (v := h1 (28 + 2 * k1) 1) (x := fm) (M := M) (by omega) (by rw [show 28 + 2 * k2 + 1 = 29 + 2 * k2 by omega, z2]; omega) ⟨by rw [F1' _ _ (by omega) (by omega)]; exact BL2.1, fun i hi => by rw [F1' _ _ (by omega) (by omega)]; exact BL2.2 i hi⟩ (by rw [show 28 + 2 * k2 + 1 = 29 + 2 * k2 by omega, z2]; omega) (by omega)
  have F2' : ∀ a j, ¬ (a = 28 + 2 * k2 ∧ j = 1) → a ≠ 29 + 2 * k2 → h2 a j = h1 a j := fun a j x y => F2 a j (by unfold bdC; omega)
  have w2 : h1 365 2 = fm := by rw [F1' _ _ (by omega) (by omega)]; exact v2.2.2.1
  refine J_impL (fun Q hq => blk (md := true) [109] 99 GC FC rfl k98 hq) ?_
  simp -implicitDefEqProofs only [r_iconst, r_bipush, r_sipush, r_ldc, r_ldc_w, r_lconst, r_ldc2_w, r_aconst_null, r_iload, r_iload_n, r_lload, r_lload_n, r_aload, r_aload_n, r_istore, r_istore_n, r_lstore, r_lstore_n, r_astore, r_astore_n, r_iinc, r_iadd, r_iaddW, r_isub, r_isubW, r_imul, r_imulW, r_ladd, r_laddW, r_lsub, r_lsubW, r_lmul, r_lmulW, r_iand, r_ior, r_ishl, r_ishr, r_iushr, r_land, r_lor, r_lshl, r_lshr, r_lushr, r_idiv, r_irem, r_ldiv, r_lrem, r_lcmp, r_ineg, r_i2l, r_l2i, r_i2b, r_i2s, r_i2c, r_dup, r_pop, r_dup_x1, r_dup_x2, r_dup2, r_dup2L, r_icmp_eq, r_icmp_ne, r_icmp_lt, r_icmp_ge, r_icmp_gt, r_icmp_le, r_if_eq, r_if_ne, r_if_lt, r_if_ge, r_if_gt, r_if_le, r_acmp_eq, r_acmp_ne, r_ifnull, r_ifnonnull, r_goto, r_nop, r_tsw, r_lsw, r_getfield, r_getfinal, r_putfield, r_getstaticL, r_getstaticR, r_iaload, r_baload, r_saload, r_laload, r_aaload, r_aaloadM, r_iastore, r_bastore, r_zastore, r_sastore, r_lastore, r_aastore, r_alen, r_new, r_newarray, r_anewarray, r_invV, r_invI, r_objI, r_invS, r_acp, r_ireturn, r_zreturn, r_lreturn, r_return, r_areturn, r_athrow, ↓e_pI, ↓e_pL, ↓e_pR, ↓e_lg0, ↓e_lg1, ↓e_tk0, ↓e_tkI0, ↓e_tkI1, ↓e_tkI2, ↓e_tkI3, ↓e_tkI4, ↓e_tkL, ↓e_tkR0_0, ↓e_tkR0_1, ↓e_tkR1_0, ↓e_tkR1_1, ↓e_tkR2_0, ↓e_tkR2_1, ↓e_tkR3_0, ↓e_tkR3_1, ↓e_tkR4_0, ↓e_tkR4_1, ↓e_tkR5_0, ↓e_tkR5_1, ↓e_tkR6_0, ↓e_tkR6_1, ↓e_tkR7_0, ↓e_tkR7_1, ↓e_tkR8_0, ↓e_tkR8_1, ↓e_tkR9_0, ↓e_tkR9_1, ↓e_tkR10_0, ↓e_tkR10_1, ↓e_tkR11_0, ↓e_tkR11_1, ↓e_tkR12_0, ↓e_tkR12_1, ↓e_tkR13_0, ↓e_tkR13_1, ↓e_tkR14_0, ↓e_tkR14_1, ↓e_tkR15_0, ↓e_tkR15_1, ↓e_tkR16_0, ↓e_tkR16_1, ↓e_tkR17_0, ↓e_tkR17_1, ↓e_tkR39_0, ↓e_tkR39_1, ↓e_tkR40_0, ↓e_tkR40_1, ↓e_tkR41_0, ↓e_tkR41_1, ↓e_tkR42_0, ↓e_tkR42_1, ↓e_tkR43_0, ↓e_tkR43_1, ↓e_tkR44_0, ↓e_tkR44_1, ↓e_tkR45_0, ↓e_tkR45_1, ↓e_tkR46_0, ↓e_tkR46_1, ↓e_tkR47_0, ↓e_tkR47_1, ↓e_tkR48_0, ↓e_tkR48_1, ↓e_pv0, ↓e_pv1, ↓e_pv2, ↓e_pv3, ↓e_pv5, ↓e_pvR, ↓e_tsw0, ↓e_tsw1, ↓e_lsw0, ↓e_lsw1, e_kq100, e_kq0, e_kq3, e_kq5, e_kqR0, e_kqR1, e_kqR2, e_kqR3, e_kqR4, e_kqR5, e_kqR6, e_kqR7, e_kqR8, e_kqR9, e_kqR10, e_kqR11, e_kqR12, e_kqR13, e_kqR14, e_kqR15, e_kqR16, e_kqR17, e_kqR39, e_kqR40, e_kqR41, e_kqR42, e_kqR43, e_kqR44, e_kqR45, e_kqR46, e_kqR47, e_kqR48, e_st0I, e_st0R, e_st0L, e_st1N, e_st1I, e_st1L, e_st1R, e_st2, e_wd0, e_wdI, e_wdL, e_wdR, e_c1I, e_c1R, e_gv0, e_gv1, e_gv2, e_gv3, e_gv4, e_gv5, e_gvR0, e_gvR1, e_gvR2, e_gvR3, e_gvR4, e_gvR5, e_gvR6, e_gvR7, e_gvR8, e_gvR9, e_gvR10, e_gvR11, e_gvR12, e_gvR13, e_gvR14, e_gvR15, e_gvR16, e_gvR17, e_gvR39, e_gvR40, e_gvR41, e_gvR42, e_gvR43, e_gvR44, e_gvR45, e_gvR46, e_gvR47, e_gvR48, e_kX0, e_kX1, e_kVv, e_kVx, e_kIv, e_kIx, e_kLv, e_kLx, e_kRv, e_kRx, e_thr, e_lk1, e_ic0, e_ic1, e_jm, st_ap, clr_ap, e_lceq, e_lclt, e_lcgt, nn, ↓reduceIte, Nat.reduceDiv, Nat.reduceMod, Nat.reduceMul, Nat.reduceAdd, Nat.reduceEqDiff, Nat.reduceLeDiff, Int.reduceNatCast, Int.cast_ofNat_Int, Int.reduceSub, Int.reduceMul, Int.reduceNeg, Int.reduceAdd, Int.reduceLE, Int.reduceLT, Int.reduceEq, Int.reduceNe, true_and, and_true, true_or, and_self, ne_eq, not_false_eq_true, Bool.false_eq_true, reduceCtorEq, rd_l1, rd_l2, rd_l3, rd_l4, rd_l5, rd_l6, rd_l7, rd_l8, rd_l9, SB, rd_ge, i2b_2, false_and, and_false, not_true_eq_false, l98_0, l98_12, l98_31, l98_58, l98_68, l98_109, l98_131, l98_173, l98_196, l98_245, l98_246, l98_349, l98_350, l98_352, l98_376, l98_378, s98_0, s98_12, s98_31, s98_58, s98_68, s98_109, s98_131, s98_173, s98_196, s98_245, s98_246, s98_349, s98_350, s98_352, s98_376, s98_378, zC_18, zC_20, zC_21, zC_22, zC_23, zC_25, zC_26, zC_253, zC_254, zC_256, zC_257, zC_259, zC_260, zC_262, zC_263, zC_265, zC_266, zC_268, zC_269, zC_271, zC_272, zC_274, zC_275, zC_278, zC_279, zC_280, zC_281, zC_282, zC_284, zC_285, zC_287, zC_288, zC_290, zC_291, zC_293, zC_294, zC_296, zC_297, zC_299, zC_300, zC_302, zC_303, zC_304, zC_305, zC_306, zC_307, zC_308, zC_309, zC_310, zC_311, zC_312, zC_315, zC_316, zC_317, zC_319, zC_320, zC_321, zC_323, zC_324, zC_325, zC_327, zC_328, zC_329, zC_331, zC_332, zC_333, zC_335, zC_336, zC_337, zC_339, zC_340, zC_341, zC_343, zC_344, zC_345, zC_347, zC_348, zC_349, zC_350, zC_351, zC_352, zC_353, zC_354, zC_355, zC_356, zC_357, zC_358, zC_359, zC_361, zC_362, zC_363, zC_364, zC_367, zC_368, zC_369, zC_370, zC_371, zC_372, zC_373, zC_374, zC_375, zC_376, zC_378, zC_380, zC_381, zC_383, zC_384, zC_386, zC_387, zC_389, zC_390, zC_391, zC_392, zC_393, zC_394, zC_395, zC_396, zC_397, zC_398, zC_400, zC_402, zC_403, zC_405, zC_407, zC_409, zC_411, zC_413, zC_415, zC_417, zC_420, zC_421, zC_422, zC_423, zC_424, zC_425, zC_427, zC_429, zC_431, zC_433, zC_436, zC_437, zC_438, zC_439, zC_440, zC_441, zC_442, zC_443, zC_444, zC_445, zC_447, zC_448, zC_450, zC_451, zC_453, zC_454, zC_455, zC_456, zC_457, zC_458, zC_460, zC_461, zC_462, zC_463, zC_464, zC_465, zC_466, zC_467, zC_468, zC_469, zC_471, zC_473, zC_474, zC_476, zC_477, zC_478, zC_479, zC_480, zC_481, zC_482, zC_483, zC_484, zC_485, zC_487, zC_489, zC_490, zC_491, zC_493, zC_495, zC_497, zC_499]
  rw [v2.2.1]
  refine J_posL kn (J_negL kg' ?_)
  refine J_LI (LVW_b (n := n) V kk.1 (by omega)) ?_
  repeat (first | refine J_andL (by first | omega | (constructor <;> omega)) ?_ | refine J_andR (by first | omega | (constructor <;> omega)) ?_ | refine J_posL (by first | omega | (constructor <;> omega)) ?_ | refine J_negL (by first | omega | (constructor <;> omega)) ?_ | refine J_posR (by first | omega | (constructor <;> omega)) ?_ | refine J_negR (by first | omega | (constructor <;> omega)) ?_)
  refine J_LI (LVW_b (n := n) V (by omega) (by omega)) ?_
  refine J_LI (LVW_b (n := n) V kk.1 (by omega)) ?_
  repeat (first | refine J_andL (by first | omega | (constructor <;> omega)) ?_ | refine J_andR (by first | omega | (constructor <;> omega)) ?_ | refine J_posL (by first | omega | (constructor <;> omega)) ?_ | refine J_negL (by first | omega | (constructor <;> omega)) ?_ | refine J_posR (by first | omega | (constructor <;> omega)) ?_ | refine J_negR (by first | omega | (constructor <;> omega)) ?_)
  refine J_LV e1 ?_
  rw [w2]
  repeat (first | refine J_andL (by first | omega | (constructor <;> omega)) ?_ | refine J_andR (by first | omega | (constructor <;> omega)) ?_ | refine J_posL (by first | omega | (constructor <;> omega)) ?_ | refine J_negL (by first | omega | (constructor <;> omega)) ?_ | refine J_posR (by first | omega | (constructor <;> omega)) ?_ | refine J_negR (by first | omega | (constructor <;> omega)) ?_)
  refine J_LV e2 ?_
  repeat (first | refine J_andL (by first | omega | (constructor <;> omega)) ?_ | refine J_andR (by first | omega | (constructor <;> omega)) ?_ | refine J_posL (by first | omega | (constructor <;> omega)) ?_ | refine J_negL (by first | omega | (constructor <;> omega)) ?_ | refine J_posR (by first | omega | (constructor <;> omega)) ?_ | refine J_negR (by first | omega | (constructor <;> omega)) ?_)
  refine fin h2 _ (BG_t B1 (fun a j g => F2' a j (by omega) (by omega))) (F2' _ _ (by omega) (by omega)) B2 (fun a j g => ?_)
  have g' : ¬ ((a = 28 + 2 * k1 ∧ (j = 1 ∨ j = 2)) ∨ a = 29 + 2 * k1 ∨ (a = 28 + 2 * k2 ∧ j = 1) ∨ a = 29 + 2 * k2) := g
  rw [F2' a j (by omega) (by omega)]; exact F1' a j (by omega) (by omega)
end
