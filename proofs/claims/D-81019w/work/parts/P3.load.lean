set_option maxRecDepth 100000
def ldC (n a j : Int) : Prop := stC a j ∨ rdC0 a j ∨ (a = 17 ∧ j = 15) ∨ a = n
def ldM (a j : Int) : Prop := stM a j ∨ rdM a j
/-- post of load and several -/
def PLd (n m : Int) (h w : Mem) : Out → Int → Mem → Out → Int → Mem → Prop := fun o n1 h1 o' m1 w1 => (∃ x, o = .inl (some (vI x)) ∧ o' = .inl (some (vI x))) ∧ (n ≤ n1 ∧ n1 ≤ n + 1) ∧ m1 = m ∧ RST h1 w1 ∧ h1 17 15 = w1 17 3 ∧ Fz (ldC n) h h1 ∧ Fz ldM w w1
/-- the store does not look at the reader's cells -/
theorem rsb_m {β : Int → Int} {h w w1 : Mem} (R : RSB β h w) (G : ∀ a j, 52 ≤ a → a ≤ 59 → w1 a j = w a j) : RSB β h w1 :=
  rst_t R (fun _ _ _ => rfl) (fun a j g => G a j (by omega) (by omega)) (fun p a b => FNT_t (R.2.2.1 p a b) (fun _ _ _ => rfl) (fun _ _ _ => ⟨rfl, rfl⟩) ⟨G _ _ (by omega) (by omega), G _ _ (by omega) (by omega), G _ _ (by omega) (by omega)⟩ (fun i _ _ => ⟨G _ _ (by omega) (by omega), G _ _ (by omega) (by omega)⟩))
section
variable {A B : Qt → Prop} {Φ : Out → Int → Mem → Out → Int → Mem → Prop} {KL KM : Qt → Qt} {n m : Int} {h w : Mem} {r : Int}
/-- keep and read (56), read (324) -/
theorem p_kr {x p : Int} {β : Int → Int} (n0 : 500 ≤ n) (n1 : n < 580) (x0 : x = 0 ∨ x = 1) (r0 : 0 ≤ r ∧ r < 4) (RB : RSB β h w) (RW : RR h w)
    (ok : ∀ (F E s : Int) (b sf cf : Int → Int) (h1 w1 : Mem), (∀ f, cf f = e2 b (sf f + 4)) → E = esn cf F.toNat → (x = 0 → F = 1) → RDR r s b h1 w1 → HDS F s b sf h1 w1 → ENT E s b h1 w1 → ENF F sf cf w1 → RSB β h w1 → (∀ p : Int, 0 ≤ p → p < 4 → KPf (252 + 6 * p) (255 + 6 * p) h h1) → Fz (fun a j => olC a j ∨ rdC0 a j) h h1 → Fz rdM w w1 → w1 17 3 = -1 → J2 (fun Q => T_at gC 56 45 [some (vR 1 17), some (vI r), some (vI p), some (vI x), some (vI 0)] [] n h1 (KL Q)) (fun Q => KM Q (.inl (some (vI 0))) m w1) Φ)
    (bad : ∀ (y : Int) (h1 w1 : Mem), y < 0 → RST h1 w1 → h1 17 15 = w1 17 3 → Fz (ldC n) h h1 → Fz ldM w w1 → J2 (fun Q => KL Q (.inl (some (vI y))) (n + 1) h1) (fun Q => KM Q (.inl (some (vI y))) m w1) Φ) :
    J2 (fun Q => T gC 56 [vR 1 17, vI r, vI p, vI x] n h (KL Q)) (fun Q => T gM 324 [vR 33 17, vI r, vI x] m w (KM Q)) Φ := by
  obtain ⟨K, Bd, FTs, b01, us, mm1, mm2, sm, tg⟩ := id RB
  obtain ⟨q1, q2, q3, q4, q5⟩ := RW r r0.1 r0.2
  refine J_impL (fun Q hq => T_go (md := true) [some (vR 1 17), some (vI r), some (vI p), some (vI x), none] [45] 99 (by decide) rfl (Nat.le_of_ble_eq_true rfl) GC FC rfl k56 hq) ?_
  simp -implicitDefEqProofs only [r_iconst, r_bipush, r_sipush, r_ldc, r_ldc_w, r_lconst, r_ldc2_w, r_aconst_null, r_iload, r_iload_n, r_lload, r_lload_n, r_aload, r_aload_n, r_istore, r_istore_n, r_lstore, r_lstore_n, r_astore, r_astore_n, r_iinc, r_iadd, r_iaddW, r_isub, r_isubW, r_imul, r_imulW, r_ladd, r_laddW, r_lsub, r_lsubW, r_lmul, r_lmulW, r_iand, r_ior, r_ishl, r_ishr, r_iushr, r_land, r_lor, r_lshl, r_lshr, r_lushr, r_idiv, r_irem, r_ldiv, r_lrem, r_lcmp, r_ineg, r_i2l, r_l2i, r_i2b, r_i2s, r_i2c, r_dup, r_pop, r_dup_x1, r_dup_x2, r_dup2, r_dup2L, r_icmp_eq, r_icmp_ne, r_icmp_lt, r_icmp_ge, r_icmp_gt, r_icmp_le, r_if_eq, r_if_ne, r_if_lt, r_if_ge, r_if_gt, r_if_le, r_acmp_eq, r_acmp_ne, r_ifnull, r_ifnonnull, r_goto, r_nop, r_tsw, r_lsw, r_getfield, r_getfinal, r_putfield, r_getstaticL, r_getstaticR, r_iaload, r_baload, r_saload, r_laload, r_aaload, r_aaloadM, r_iastore, r_bastore, r_zastore, r_sastore, r_lastore, r_aastore, r_alen, r_new, r_newarray, r_anewarray, r_invV, r_invI, r_objI, r_invS, r_acp, r_ireturn, r_zreturn, r_lreturn, r_return, r_areturn, r_athrow, ↓e_pI, ↓e_pL, ↓e_pR, ↓e_lg0, ↓e_lg1, ↓e_tk0, ↓e_tkI0, ↓e_tkI1, ↓e_tkI2, ↓e_tkI3, ↓e_tkI4, ↓e_tkL, ↓e_tkR0_0, ↓e_tkR0_1, ↓e_tkR1_0, ↓e_tkR1_1, ↓e_tkR2_0, ↓e_tkR2_1, ↓e_tkR3_0, ↓e_tkR3_1, ↓e_tkR4_0, ↓e_tkR4_1, ↓e_tkR5_0, ↓e_tkR5_1, ↓e_tkR6_0, ↓e_tkR6_1, ↓e_tkR7_0, ↓e_tkR7_1, ↓e_tkR8_0, ↓e_tkR8_1, ↓e_tkR9_0, ↓e_tkR9_1, ↓e_tkR10_0, ↓e_tkR10_1, ↓e_tkR11_0, ↓e_tkR11_1, ↓e_tkR12_0, ↓e_tkR12_1, ↓e_tkR13_0, ↓e_tkR13_1, ↓e_tkR14_0, ↓e_tkR14_1, ↓e_tkR15_0, ↓e_tkR15_1, ↓e_tkR16_0, ↓e_tkR16_1, ↓e_tkR17_0, ↓e_tkR17_1, ↓e_tkR39_0, ↓e_tkR39_1, ↓e_tkR40_0, ↓e_tkR40_1, ↓e_tkR41_0, ↓e_tkR41_1, ↓e_tkR42_0, ↓e_tkR42_1, ↓e_tkR43_0, ↓e_tkR43_1, ↓e_tkR44_0, ↓e_tkR44_1, ↓e_tkR45_0, ↓e_tkR45_1, ↓e_tkR46_0, ↓e_tkR46_1, ↓e_tkR47_0, ↓e_tkR47_1, ↓e_tkR48_0, ↓e_tkR48_1, ↓e_pv0, ↓e_pv1, ↓e_pv2, ↓e_pv3, ↓e_pv5, ↓e_pvR, ↓e_tsw0, ↓e_tsw1, ↓e_lsw0, ↓e_lsw1, e_kq100, e_kq0, e_kq3, e_kq5, e_kqR0, e_kqR1, e_kqR2, e_kqR3, e_kqR4, e_kqR5, e_kqR6, e_kqR7, e_kqR8, e_kqR9, e_kqR10, e_kqR11, e_kqR12, e_kqR13, e_kqR14, e_kqR15, e_kqR16, e_kqR17, e_kqR39, e_kqR40, e_kqR41, e_kqR42, e_kqR43, e_kqR44, e_kqR45, e_kqR46, e_kqR47, e_kqR48, e_st0I, e_st0R, e_st0L, e_st1N, e_st1I, e_st1L, e_st1R, e_st2, e_wd0, e_wdI, e_wdL, e_wdR, e_c1I, e_c1R, e_gv0, e_gv1, e_gv2, e_gv3, e_gv4, e_gv5, e_gvR0, e_gvR1, e_gvR2, e_gvR3, e_gvR4, e_gvR5, e_gvR6, e_gvR7, e_gvR8, e_gvR9, e_gvR10, e_gvR11, e_gvR12, e_gvR13, e_gvR14, e_gvR15, e_gvR16, e_gvR17, e_gvR39, e_gvR40, e_gvR41, e_gvR42, e_gvR43, e_gvR44, e_gvR45, e_gvR46, e_gvR47, e_gvR48, e_kX0, e_kX1, e_kVv, e_kVx, e_kIv, e_kIx, e_kLv, e_kLx, e_kRv, e_kRx, e_thr, e_lk1, e_ic0, e_ic1, e_jm, st_ap, clr_ap, e_lceq, e_lclt, e_lcgt, nn, ↓reduceIte, Nat.reduceDiv, Nat.reduceMod, Nat.reduceMul, Nat.reduceAdd, Nat.reduceEqDiff, Nat.reduceLeDiff, Int.reduceNatCast, Int.cast_ofNat_Int, Int.reduceSub, Int.reduceMul, Int.reduceNeg, Int.reduceAdd, Int.reduceLE, Int.reduceLT, Int.reduceEq, Int.reduceNe, true_and, and_true, true_or, and_self, ne_eq, not_false_eq_true, Bool.false_eq_true, reduceCtorEq, rd_l1, rd_l2, rd_l3, rd_l4, rd_l5, rd_l6, rd_l7, rd_l8, rd_l9, SB, rd_ge, i2b_2, false_and, and_false, not_true_eq_false, l56_0, l56_24, l56_42, l56_45, l56_75, l56_97, l56_116, l56_128, s56_0, s56_24, s56_42, s56_45, s56_75, s56_97, s56_116, s56_128, zC_18, zC_20, zC_21, zC_22, zC_23, zC_25, zC_26, zC_253, zC_254, zC_256, zC_257, zC_259, zC_260, zC_262, zC_263, zC_265, zC_266, zC_268, zC_269, zC_271, zC_272, zC_274, zC_275, zC_278, zC_279, zC_280, zC_281, zC_282, zC_284, zC_285, zC_287, zC_288, zC_290, zC_291, zC_293, zC_294, zC_296, zC_297, zC_299, zC_300, zC_302, zC_303, zC_304, zC_305, zC_306, zC_307, zC_308, zC_309, zC_310, zC_311, zC_312, zC_315, zC_316, zC_317, zC_319, zC_320, zC_321, zC_323, zC_324, zC_325, zC_327, zC_328, zC_329, zC_331, zC_332, zC_333, zC_335, zC_336, zC_337, zC_339, zC_340, zC_341, zC_343, zC_344, zC_345, zC_347, zC_348, zC_349, zC_350, zC_351, zC_352, zC_353, zC_354, zC_355, zC_356, zC_357, zC_358, zC_359, zC_361, zC_362, zC_363, zC_364, zC_367, zC_368, zC_369, zC_370, zC_371, zC_372, zC_373, zC_374, zC_375, zC_376, zC_378, zC_380, zC_381, zC_383, zC_384, zC_386, zC_387, zC_389, zC_390, zC_391, zC_392, zC_393, zC_394, zC_395, zC_396, zC_397, zC_398, zC_400, zC_402, zC_403, zC_405, zC_407, zC_409, zC_411, zC_413, zC_415, zC_417, zC_420, zC_421, zC_422, zC_423, zC_424, zC_425, zC_427, zC_429, zC_431, zC_433, zC_436, zC_437, zC_438, zC_439, zC_440, zC_441, zC_442, zC_443, zC_444, zC_445, zC_447, zC_448, zC_450, zC_451, zC_453, zC_454, zC_455, zC_456, zC_457, zC_458, zC_460, zC_461, zC_462, zC_463, zC_464, zC_465, zC_466, zC_467, zC_468, zC_469, zC_471, zC_473, zC_474, zC_476, zC_477, zC_478, zC_479, zC_480, zC_481, zC_482, zC_483, zC_484, zC_485, zC_487, zC_489, zC_490, zC_491, zC_493, zC_495, zC_497, zC_499]
  refine c_keep K (fun p a b => ?_) ?_
  · have := (FTs p a b).1
    have := (FTs p a b).2.1
    rw [FO_4 b] at *
    omega
  intro h1 kp F1
  try simp only [e_kVv]
  have e1 : ∀ a j, a ≤ 254 ∨ 276 ≤ a → h1 a j = h a j := fun a j g => F1 a j (by unfold olC; omega)
  rw [e1 23 r (by omega), q1]
  repeat (first | refine J_andL (by first | omega | (constructor <;> omega)) ?_ | refine J_andR (by first | omega | (constructor <;> omega)) ?_ | refine J_posL (by first | omega | (constructor <;> omega)) ?_ | refine J_negL (by first | omega | (constructor <;> omega)) ?_ | refine J_posR (by first | omega | (constructor <;> omega)) ?_ | refine J_negR (by first | omega | (constructor <;> omega)) ?_)
  have R0 : RDR r (h (492 + 2 * r) 1) (h (492 + 2 * r + 1)) (st h1 360 0 (492 + 2 * r)) w := by
    refine ⟨r0, ⟨q2, q3⟩, st_eq _ _ _ _, by rw [st_na (by omega), e1 _ _ (by omega)], q4, fun i a c => ?_⟩
    rw [st_na (by omega), e1 _ _ (by omega)]
    have := q5 i a c
    exact ⟨rfl, this.1, this.2⟩
  refine p_rdfile n0 n1 x0 R0 ?_ ?_
  · intro F E h2 w2 eE xF R2 H2 N2 M2 F2 G2 z2 z3
    simp only [e_kVv]
    refine ok F E _ _ _ _ h2 w2 (fun f => rfl) eE xF R2 H2 N2 M2 (rsb_m RB (fun a j x y => G2 a j (by unfold rdM; omega))) (fun p a b => ?_) (fun a j g => ?_) G2 z3
    · obtain ⟨k1, k2⟩ := kp p a b
      exact ⟨fun j x y => by rw [F2 _ _ (by unfold rdC0; omega)]; exact k1 j x y, fun i x y => by rw [F2 _ _ (by unfold rdC0; omega), F2 _ _ (by unfold rdC0; omega)]; exact k2 i x y⟩
    · rw [F2 a j (fun q => g (Or.inr q))]
      exact F1 a j (fun q => g (Or.inl q))
  · intro k pp h2 w2 k0 F2 G2 z2 z3
    simp only [e_kVx]
    -- the fault's memory
    have e3 : ∀ a j, a < 360 ∨ (364 < a ∧ a ≠ n) → flt h2 n k pp a j = h1 a j := fun a j g => by rw [flt_na (by omega)]; exact F2 a j (by unfold rdC0; omega)
    have RB2 := rsb_m RB (fun a j x y => G2 a j (by unfold rdM; omega))
    have f6 : flt h2 n k pp n 6 = k := flt_6
    have f7 : flt h2 n k pp n 7 = pp := flt_7
    have eo : ∀ a j, a < 276 → ¬ olC a j → flt h2 n k pp a j = h a j := fun a j x y => by rw [e3 a j (by omega)]; exact F1 a j y
    have fr : ∀ a j, ¬ olC a j → ¬ rdC0 a j → a ≠ n → flt h2 n k pp a j = h a j := fun a j x y z => by rw [flt_na z, F2 a j y]; exact F1 a j x
    have kp3 : ∀ p : Int, 0 ≤ p → p < 4 → KPf (252 + 6 * p) (255 + 6 * p) h (flt h2 n k pp) := fun p a b => by
      obtain ⟨k1, k2⟩ := kp p a b
      exact ⟨fun j x y => by rw [e3 _ _ (by omega)]; exact k1 j x y, fun i x y => by rw [e3 _ _ (by omega), e3 _ _ (by omega)]; exact k2 i x y⟩
    revert f6 f7 eo kp3 fr
    generalize flt h2 n k pp = h3
    intro f6 f7 eo fr kp3
    have Bd3 : BD β (bsy h) h3 w2 := by
      refine ⟨fun k' q => ?_, Bd.2⟩
      obtain ⟨y1, y2, y3, y4, y5⟩ := Bd.1 k' q
      have e : h3 (28 + 2 * k') 1 = h (28 + 2 * k') 1 := eo _ _ (by omega) (by unfold olC; omega)
      refine ⟨y1, y2, by rw [e]; exact y3, by rw [e, G2 53 _ (by unfold rdM; omega)]; exact y4, fun i i0 i1 => ?_⟩
      rw [e] at i1
      rw [eo (29 + 2 * k') i (by omega) (by unfold olC; omega), G2 52 _ (by unfold rdM; omega)]
      exact y5 i i0 i1
    have FT3 : ∀ p : Int, 0 ≤ p → p < 4 → FNT β (bsy h) p h3 w2 := fun p a b => FNT_t (FTs p a b) (fun j _ _ => eo _ _ (by rw [FO_4 b]; omega) (by rw [FO_4 b]; unfold olC; omega)) (fun i _ _ => ⟨eo _ _ (by rw [FO_4 b]; omega) (by rw [FO_4 b]; unfold olC; omega), eo _ _ (by rw [FO_4 b]; omega) (by rw [FO_4 b]; unfold olC; omega)⟩) ⟨G2 _ _ (by unfold rdM; omega), G2 _ _ (by unfold rdM; omega), G2 _ _ (by unfold rdM; omega)⟩ (fun i _ _ => ⟨G2 _ _ (by unfold rdM; omega), G2 _ _ (by unfold rdM; omega)⟩)
    refine c_stands0 (h0 := h) (w0 := w2) (w1 := w2) (β0 := β) (β := β) (D := bsy h) RB2 (SKC_t K (fun a j x y => eo _ _ (by omega) (by unfold olC; omega))) Bd3 FT3 kp3 (fun k' q => ?_) (fun p a b => ⟨rfl, rfl, rfl⟩) (fun j a b => ⟨rfl, rfl⟩) (fun a j g => rfl) ?_
    · have b1 := (Bd.1 k' q).1
      exact ⟨⟨q, rfl⟩, eo _ _ (by omega) (by unfold olC; omega), fun i => eo _ _ (by omega) (by unfold olC; omega), rfl, fun i i0 i1 => rfl⟩
    · intro h4 R4 F4 kp4
      simp only [e_kIv]
      have e4n : ∀ j, h4 n j = h3 n j := fun j => F4 n j (by unfold nsC ctC fnC; omega)
      refine J_LI (c_wrong (by omega) (by rw [e4n, f6]; omega)) ?_
      rw [e4n, e4n, f6, f7]
      refine bad (-10 - k) _ w2 (by omega) ⟨β, rst_t R4 (fun a j g => st_na (by omega)) (fun _ _ _ => rfl) (fun p a b => FNT_t (R4.2.2.1 p a b) (fun j _ _ => st_na (by rw [FO_4 b]; omega)) (fun i _ _ => ⟨st_na (by rw [FO_4 b]; omega), st_na (by rw [FO_4 b]; omega)⟩) ⟨rfl, rfl, rfl⟩ (fun _ _ _ => ⟨rfl, rfl⟩))⟩ (by rw [st_eq]; exact z3.symm) (fun a j g => ?_) (Fz_mo G2 (fun a j g => Or.inr g))
      have g' : ¬ (((a = 24 ∧ (j = 3 ∨ j = 4)) ∨ (28 ≤ a ∧ a ≤ 275)) ∨ (360 ≤ a ∧ a ≤ 364) ∨ (a = 17 ∧ j = 15) ∨ a = n) := g
      rw [st_other (by omega), F4 a j (by unfold nsC ctC fnC; omega)]
      exact fr a j (by unfold olC; omega) (by unfold rdC0; omega) (by omega)
/-- LOAD -/
theorem p_load {r p : Int} (n0 : 500 ≤ n) (n1 : n < 580) (R : RST h w) (RW : RR h w) (pl : h 17 15 = w 17 3) : J2 (fun Q => T gC 55 [vR 1 17, vI r, vI p] n h Q) (fun Q => T gM 323 [vR 33 17, vI r, vI p] m w Q) (PLd n m h w) := by
  refine J_impL (fun Q hq => T_go (md := true) [some (vR 1 17), some (vI r), some (vI p)] [] 99 (by decide) rfl (Nat.le_of_ble_eq_true rfl) GC FC rfl k55 hq) ?_
  refine J_impR (fun Q hq => T_go (md := true) [some (vR 33 17), some (vI r), some (vI p), none, none] [] 99 (by decide) rfl (Nat.le_of_ble_eq_true rfl) GM FM rfl k323 hq) ?_
  simp -implicitDefEqProofs only [r_iconst, r_bipush, r_sipush, r_ldc, r_ldc_w, r_lconst, r_ldc2_w, r_aconst_null, r_iload, r_iload_n, r_lload, r_lload_n, r_aload, r_aload_n, r_istore, r_istore_n, r_lstore, r_lstore_n, r_astore, r_astore_n, r_iinc, r_iadd, r_iaddW, r_isub, r_isubW, r_imul, r_imulW, r_ladd, r_laddW, r_lsub, r_lsubW, r_lmul, r_lmulW, r_iand, r_ior, r_ishl, r_ishr, r_iushr, r_land, r_lor, r_lshl, r_lshr, r_lushr, r_idiv, r_irem, r_ldiv, r_lrem, r_lcmp, r_ineg, r_i2l, r_l2i, r_i2b, r_i2s, r_i2c, r_dup, r_pop, r_dup_x1, r_dup_x2, r_dup2, r_dup2L, r_icmp_eq, r_icmp_ne, r_icmp_lt, r_icmp_ge, r_icmp_gt, r_icmp_le, r_if_eq, r_if_ne, r_if_lt, r_if_ge, r_if_gt, r_if_le, r_acmp_eq, r_acmp_ne, r_ifnull, r_ifnonnull, r_goto, r_nop, r_tsw, r_lsw, r_getfield, r_getfinal, r_putfield, r_getstaticL, r_getstaticR, r_iaload, r_baload, r_saload, r_laload, r_aaload, r_aaloadM, r_iastore, r_bastore, r_zastore, r_sastore, r_lastore, r_aastore, r_alen, r_new, r_newarray, r_anewarray, r_invV, r_invI, r_objI, r_invS, r_acp, r_ireturn, r_zreturn, r_lreturn, r_return, r_areturn, r_athrow, ↓e_pI, ↓e_pL, ↓e_pR, ↓e_lg0, ↓e_lg1, ↓e_tk0, ↓e_tkI0, ↓e_tkI1, ↓e_tkI2, ↓e_tkI3, ↓e_tkI4, ↓e_tkL, ↓e_tkR0_0, ↓e_tkR0_1, ↓e_tkR1_0, ↓e_tkR1_1, ↓e_tkR2_0, ↓e_tkR2_1, ↓e_tkR3_0, ↓e_tkR3_1, ↓e_tkR4_0, ↓e_tkR4_1, ↓e_tkR5_0, ↓e_tkR5_1, ↓e_tkR6_0, ↓e_tkR6_1, ↓e_tkR7_0, ↓e_tkR7_1, ↓e_tkR8_0, ↓e_tkR8_1, ↓e_tkR9_0, ↓e_tkR9_1, ↓e_tkR10_0, ↓e_tkR10_1, ↓e_tkR11_0, ↓e_tkR11_1, ↓e_tkR12_0, ↓e_tkR12_1, ↓e_tkR13_0, ↓e_tkR13_1, ↓e_tkR14_0, ↓e_tkR14_1, ↓e_tkR15_0, ↓e_tkR15_1, ↓e_tkR16_0, ↓e_tkR16_1, ↓e_tkR17_0, ↓e_tkR17_1, ↓e_tkR39_0, ↓e_tkR39_1, ↓e_tkR40_0, ↓e_tkR40_1, ↓e_tkR41_0, ↓e_tkR41_1, ↓e_tkR42_0, ↓e_tkR42_1, ↓e_tkR43_0, ↓e_tkR43_1, ↓e_tkR44_0, ↓e_tkR44_1, ↓e_tkR45_0, ↓e_tkR45_1, ↓e_tkR46_0, ↓e_tkR46_1, ↓e_tkR47_0, ↓e_tkR47_1, ↓e_tkR48_0, ↓e_tkR48_1, ↓e_pv0, ↓e_pv1, ↓e_pv2, ↓e_pv3, ↓e_pv5, ↓e_pvR, ↓e_tsw0, ↓e_tsw1, ↓e_lsw0, ↓e_lsw1, e_kq100, e_kq0, e_kq3, e_kq5, e_kqR0, e_kqR1, e_kqR2, e_kqR3, e_kqR4, e_kqR5, e_kqR6, e_kqR7, e_kqR8, e_kqR9, e_kqR10, e_kqR11, e_kqR12, e_kqR13, e_kqR14, e_kqR15, e_kqR16, e_kqR17, e_kqR39, e_kqR40, e_kqR41, e_kqR42, e_kqR43, e_kqR44, e_kqR45, e_kqR46, e_kqR47, e_kqR48, e_st0I, e_st0R, e_st0L, e_st1N, e_st1I, e_st1L, e_st1R, e_st2, e_wd0, e_wdI, e_wdL, e_wdR, e_c1I, e_c1R, e_gv0, e_gv1, e_gv2, e_gv3, e_gv4, e_gv5, e_gvR0, e_gvR1, e_gvR2, e_gvR3, e_gvR4, e_gvR5, e_gvR6, e_gvR7, e_gvR8, e_gvR9, e_gvR10, e_gvR11, e_gvR12, e_gvR13, e_gvR14, e_gvR15, e_gvR16, e_gvR17, e_gvR39, e_gvR40, e_gvR41, e_gvR42, e_gvR43, e_gvR44, e_gvR45, e_gvR46, e_gvR47, e_gvR48, e_kX0, e_kX1, e_kVv, e_kVx, e_kIv, e_kIx, e_kLv, e_kLx, e_kRv, e_kRx, e_thr, e_lk1, e_ic0, e_ic1, e_jm, st_ap, clr_ap, e_lceq, e_lclt, e_lcgt, nn, ↓reduceIte, Nat.reduceDiv, Nat.reduceMod, Nat.reduceMul, Nat.reduceAdd, Nat.reduceEqDiff, Nat.reduceLeDiff, Int.reduceNatCast, Int.cast_ofNat_Int, Int.reduceSub, Int.reduceMul, Int.reduceNeg, Int.reduceAdd, Int.reduceLE, Int.reduceLT, Int.reduceEq, Int.reduceNe, true_and, and_true, true_or, and_self, ne_eq, not_false_eq_true, Bool.false_eq_true, reduceCtorEq, rd_l1, rd_l2, rd_l3, rd_l4, rd_l5, rd_l6, rd_l7, rd_l8, rd_l9, SB, rd_ge, i2b_2, false_and, and_false, not_true_eq_false, l55_0, l55_24, l55_25, s55_0, s55_24, s55_25, l323_0, l323_14, l323_16, l323_37, l323_62, s323_0, s323_14, s323_16, s323_37, s323_62, zC_18, zC_20, zC_21, zC_22, zC_23, zC_25, zC_26, zC_253, zC_254, zC_256, zC_257, zC_259, zC_260, zC_262, zC_263, zC_265, zC_266, zC_268, zC_269, zC_271, zC_272, zC_274, zC_275, zC_278, zC_279, zC_280, zC_281, zC_282, zC_284, zC_285, zC_287, zC_288, zC_290, zC_291, zC_293, zC_294, zC_296, zC_297, zC_299, zC_300, zC_302, zC_303, zC_304, zC_305, zC_306, zC_307, zC_308, zC_309, zC_310, zC_311, zC_312, zC_315, zC_316, zC_317, zC_319, zC_320, zC_321, zC_323, zC_324, zC_325, zC_327, zC_328, zC_329, zC_331, zC_332, zC_333, zC_335, zC_336, zC_337, zC_339, zC_340, zC_341, zC_343, zC_344, zC_345, zC_347, zC_348, zC_349, zC_350, zC_351, zC_352, zC_353, zC_354, zC_355, zC_356, zC_357, zC_358, zC_359, zC_361, zC_362, zC_363, zC_364, zC_367, zC_368, zC_369, zC_370, zC_371, zC_372, zC_373, zC_374, zC_375, zC_376, zC_378, zC_380, zC_381, zC_383, zC_384, zC_386, zC_387, zC_389, zC_390, zC_391, zC_392, zC_393, zC_394, zC_395, zC_396, zC_397, zC_398, zC_400, zC_402, zC_403, zC_405, zC_407, zC_409, zC_411, zC_413, zC_415, zC_417, zC_420, zC_421, zC_422, zC_423, zC_424, zC_425, zC_427, zC_429, zC_431, zC_433, zC_436, zC_437, zC_438, zC_439, zC_440, zC_441, zC_442, zC_443, zC_444, zC_445, zC_447, zC_448, zC_450, zC_451, zC_453, zC_454, zC_455, zC_456, zC_457, zC_458, zC_460, zC_461, zC_462, zC_463, zC_464, zC_465, zC_466, zC_467, zC_468, zC_469, zC_471, zC_473, zC_474, zC_476, zC_477, zC_478, zC_479, zC_480, zC_481, zC_482, zC_483, zC_484, zC_485, zC_487, zC_489, zC_490, zC_491, zC_493, zC_495, zC_497, zC_499, zM_18, zM_19, zM_20, zM_21, zM_22, zM_23, zM_24, zM_25, zM_26, zM_27, zM_28, zM_29, zM_30, zM_31, zM_32, zM_33, zM_34, zM_35, zM_36, zM_37, zM_38, zM_39, zM_40, zM_41, zM_42, zM_43, zM_44, zM_45, zM_46, zM_47, zM_48, zM_49, zM_50, zM_51, zM_52, zM_53, zM_54, zM_55, zM_56, zM_57, zM_58, zM_59, zM_60, zM_61, zM_62, zM_63, zM_64, zM_65, zM_66, zM_67, zM_68, zM_69, zM_70, zM_71, zM_72, zM_73, zM_74, zM_75, zM_76, zM_77, zM_78, zM_79, zM_80, zM_81, zM_82, zM_83, zM_84, zM_85, zM_86, zM_87, zM_88, zM_89, zM_90, zM_91, zM_92, zM_93, zM_94, zM_95, zM_96, zM_97, zM_98, zM_99, zM_100, zM_101, zM_102, zM_103, zM_104, zM_105, zM_106, zM_107, zM_108, zM_109, zM_110, zM_111, zM_112, zM_113, zM_114, zM_115, zM_116, zM_117, zM_118, zM_119]
  refine J_LI (c_isRow _) (J_RI (m_isRow _) ?_)
  by_cases gr : 0 ≤ r ∧ r ≤ 3
  · rw [bz_t gr]
    repeat (first | refine J_andL (by first | omega | (constructor <;> omega)) ?_ | refine J_andR (by first | omega | (constructor <;> omega)) ?_ | refine J_posL (by first | omega | (constructor <;> omega)) ?_ | refine J_negL (by first | omega | (constructor <;> omega)) ?_ | refine J_posR (by first | omega | (constructor <;> omega)) ?_ | refine J_negR (by first | omega | (constructor <;> omega)) ?_)
    refine J_LI (c_isPlace _) (J_RI (m_isPlace _) ?_)
    by_cases gp : 0 ≤ p ∧ p ≤ 3
    · rw [bz_t gp]
      repeat (first | refine J_andL (by first | omega | (constructor <;> omega)) ?_ | refine J_andR (by first | omega | (constructor <;> omega)) ?_ | refine J_posL (by first | omega | (constructor <;> omega)) ?_ | refine J_negL (by first | omega | (constructor <;> omega)) ?_ | refine J_posR (by first | omega | (constructor <;> omega)) ?_ | refine J_negR (by first | omega | (constructor <;> omega)) ?_)
      obtain ⟨β, RB⟩ := id R
      refine p_kr (x := 0) (p := p) n0 n1 (Or.inl rfl) (by omega) RB RW ?_ ?_
      · intro F E s b sf cf h1 w1 cfe eE xF R1 H1 N1 M1 RB1 kp F1 G1 z3
        simp only [e_kIv]
        have xF := xF rfl
        refine J_negR (by omega) ?_
        refine J_impL (fun Q hq => blk (md := true) [45] 99 GC FC rfl k56 hq) ?_
        simp -implicitDefEqProofs only [r_iconst, r_bipush, r_sipush, r_ldc, r_ldc_w, r_lconst, r_ldc2_w, r_aconst_null, r_iload, r_iload_n, r_lload, r_lload_n, r_aload, r_aload_n, r_istore, r_istore_n, r_lstore, r_lstore_n, r_astore, r_astore_n, r_iinc, r_iadd, r_iaddW, r_isub, r_isubW, r_imul, r_imulW, r_ladd, r_laddW, r_lsub, r_lsubW, r_lmul, r_lmulW, r_iand, r_ior, r_ishl, r_ishr, r_iushr, r_land, r_lor, r_lshl, r_lshr, r_lushr, r_idiv, r_irem, r_ldiv, r_lrem, r_lcmp, r_ineg, r_i2l, r_l2i, r_i2b, r_i2s, r_i2c, r_dup, r_pop, r_dup_x1, r_dup_x2, r_dup2, r_dup2L, r_icmp_eq, r_icmp_ne, r_icmp_lt, r_icmp_ge, r_icmp_gt, r_icmp_le, r_if_eq, r_if_ne, r_if_lt, r_if_ge, r_if_gt, r_if_le, r_acmp_eq, r_acmp_ne, r_ifnull, r_ifnonnull, r_goto, r_nop, r_tsw, r_lsw, r_getfield, r_getfinal, r_putfield, r_getstaticL, r_getstaticR, r_iaload, r_baload, r_saload, r_laload, r_aaload, r_aaloadM, r_iastore, r_bastore, r_zastore, r_sastore, r_lastore, r_aastore, r_alen, r_new, r_newarray, r_anewarray, r_invV, r_invI, r_objI, r_invS, r_acp, r_ireturn, r_zreturn, r_lreturn, r_return, r_areturn, r_athrow, ↓e_pI, ↓e_pL, ↓e_pR, ↓e_lg0, ↓e_lg1, ↓e_tk0, ↓e_tkI0, ↓e_tkI1, ↓e_tkI2, ↓e_tkI3, ↓e_tkI4, ↓e_tkL, ↓e_tkR0_0, ↓e_tkR0_1, ↓e_tkR1_0, ↓e_tkR1_1, ↓e_tkR2_0, ↓e_tkR2_1, ↓e_tkR3_0, ↓e_tkR3_1, ↓e_tkR4_0, ↓e_tkR4_1, ↓e_tkR5_0, ↓e_tkR5_1, ↓e_tkR6_0, ↓e_tkR6_1, ↓e_tkR7_0, ↓e_tkR7_1, ↓e_tkR8_0, ↓e_tkR8_1, ↓e_tkR9_0, ↓e_tkR9_1, ↓e_tkR10_0, ↓e_tkR10_1, ↓e_tkR11_0, ↓e_tkR11_1, ↓e_tkR12_0, ↓e_tkR12_1, ↓e_tkR13_0, ↓e_tkR13_1, ↓e_tkR14_0, ↓e_tkR14_1, ↓e_tkR15_0, ↓e_tkR15_1, ↓e_tkR16_0, ↓e_tkR16_1, ↓e_tkR17_0, ↓e_tkR17_1, ↓e_tkR39_0, ↓e_tkR39_1, ↓e_tkR40_0, ↓e_tkR40_1, ↓e_tkR41_0, ↓e_tkR41_1, ↓e_tkR42_0, ↓e_tkR42_1, ↓e_tkR43_0, ↓e_tkR43_1, ↓e_tkR44_0, ↓e_tkR44_1, ↓e_tkR45_0, ↓e_tkR45_1, ↓e_tkR46_0, ↓e_tkR46_1, ↓e_tkR47_0, ↓e_tkR47_1, ↓e_tkR48_0, ↓e_tkR48_1, ↓e_pv0, ↓e_pv1, ↓e_pv2, ↓e_pv3, ↓e_pv5, ↓e_pvR, ↓e_tsw0, ↓e_tsw1, ↓e_lsw0, ↓e_lsw1, e_kq100, e_kq0, e_kq3, e_kq5, e_kqR0, e_kqR1, e_kqR2, e_kqR3, e_kqR4, e_kqR5, e_kqR6, e_kqR7, e_kqR8, e_kqR9, e_kqR10, e_kqR11, e_kqR12, e_kqR13, e_kqR14, e_kqR15, e_kqR16, e_kqR17, e_kqR39, e_kqR40, e_kqR41, e_kqR42, e_kqR43, e_kqR44, e_kqR45, e_kqR46, e_kqR47, e_kqR48, e_st0I, e_st0R, e_st0L, e_st1N, e_st1I, e_st1L, e_st1R, e_st2, e_wd0, e_wdI, e_wdL, e_wdR, e_c1I, e_c1R, e_gv0, e_gv1, e_gv2, e_gv3, e_gv4, e_gv5, e_gvR0, e_gvR1, e_gvR2, e_gvR3, e_gvR4, e_gvR5, e_gvR6, e_gvR7, e_gvR8, e_gvR9, e_gvR10, e_gvR11, e_gvR12, e_gvR13, e_gvR14, e_gvR15, e_gvR16, e_gvR17, e_gvR39, e_gvR40, e_gvR41, e_gvR42, e_gvR43, e_gvR44, e_gvR45, e_gvR46, e_gvR47, e_gvR48, e_kX0, e_kX1, e_kVv, e_kVx, e_kIv, e_kIx, e_kLv, e_kLx, e_kRv, e_kRx, e_thr, e_lk1, e_ic0, e_ic1, e_jm, st_ap, clr_ap, e_lceq, e_lclt, e_lcgt, nn, ↓reduceIte, Nat.reduceDiv, Nat.reduceMod, Nat.reduceMul, Nat.reduceAdd, Nat.reduceEqDiff, Nat.reduceLeDiff, Int.reduceNatCast, Int.cast_ofNat_Int, Int.reduceSub, Int.reduceMul, Int.reduceNeg, Int.reduceAdd, Int.reduceLE, Int.reduceLT, Int.reduceEq, Int.reduceNe, true_and, and_true, true_or, and_self, ne_eq, not_false_eq_true, Bool.false_eq_true, reduceCtorEq, rd_l1, rd_l2, rd_l3, rd_l4, rd_l5, rd_l6, rd_l7, rd_l8, rd_l9, SB, rd_ge, i2b_2, false_and, and_false, not_true_eq_false, l56_0, l56_24, l56_42, l56_45, l56_75, l56_97, l56_116, l56_128, s56_0, s56_24, s56_42, s56_45, s56_75, s56_97, s56_116, s56_128, zC_18, zC_20, zC_21, zC_22, zC_23, zC_25, zC_26, zC_253, zC_254, zC_256, zC_257, zC_259, zC_260, zC_262, zC_263, zC_265, zC_266, zC_268, zC_269, zC_271, zC_272, zC_274, zC_275, zC_278, zC_279, zC_280, zC_281, zC_282, zC_284, zC_285, zC_287, zC_288, zC_290, zC_291, zC_293, zC_294, zC_296, zC_297, zC_299, zC_300, zC_302, zC_303, zC_304, zC_305, zC_306, zC_307, zC_308, zC_309, zC_310, zC_311, zC_312, zC_315, zC_316, zC_317, zC_319, zC_320, zC_321, zC_323, zC_324, zC_325, zC_327, zC_328, zC_329, zC_331, zC_332, zC_333, zC_335, zC_336, zC_337, zC_339, zC_340, zC_341, zC_343, zC_344, zC_345, zC_347, zC_348, zC_349, zC_350, zC_351, zC_352, zC_353, zC_354, zC_355, zC_356, zC_357, zC_358, zC_359, zC_361, zC_362, zC_363, zC_364, zC_367, zC_368, zC_369, zC_370, zC_371, zC_372, zC_373, zC_374, zC_375, zC_376, zC_378, zC_380, zC_381, zC_383, zC_384, zC_386, zC_387, zC_389, zC_390, zC_391, zC_392, zC_393, zC_394, zC_395, zC_396, zC_397, zC_398, zC_400, zC_402, zC_403, zC_405, zC_407, zC_409, zC_411, zC_413, zC_415, zC_417, zC_420, zC_421, zC_422, zC_423, zC_424, zC_425, zC_427, zC_429, zC_431, zC_433, zC_436, zC_437, zC_438, zC_439, zC_440, zC_441, zC_442, zC_443, zC_444, zC_445, zC_447, zC_448, zC_450, zC_451, zC_453, zC_454, zC_455, zC_456, zC_457, zC_458, zC_460, zC_461, zC_462, zC_463, zC_464, zC_465, zC_466, zC_467, zC_468, zC_469, zC_471, zC_473, zC_474, zC_476, zC_477, zC_478, zC_479, zC_480, zC_481, zC_482, zC_483, zC_484, zC_485, zC_487, zC_489, zC_490, zC_491, zC_493, zC_495, zC_497, zC_499]
        refine m_keepC RB1 kp (fun a j x y g => F1 a j (fun q => by rcases q with q | q; exact g q; unfold rdC0 at q; omega)) ?_
        intro w2 C2 G2
        try simp only [e_kVv]
        have c2 : ∀ a j, ¬ (54 ≤ a ∧ a ≤ 59) → w2 a j = w1 a j := fun a j g => G2 a j (by unfold kpM; omega)
        refine p_give C2 (RDR_t R1 (fun _ _ _ => rfl) (fun a j g => c2 a j (by omega))) (ENT_t N1 (fun _ _ _ => rfl) (fun a j g => c2 a j (by omega))) (HDS_t H1 (fun _ _ _ => rfl) (fun a j g => c2 a j (by omega))) (ENF_t M1 (fun a j g => c2 a j (by omega))) cfe eE (by omega) ?_
        intro β' D' h3 w3 C3 i55 F3 G3
        simp only [e_kVv]
        have c3 : ∀ a j, ¬ (52 ≤ a ∧ a ≤ 59) → a ≠ 66 → w3 a j = w1 a j := fun a j g1 g2 => by rw [G3 a j (by unfold gvM stM; omega)]; exact c2 a j (by omega)
        have G03 : Fz ldM w w3 := fun a j g => by
          have g' : ¬ ((52 ≤ a ∧ a ≤ 59) ∨ ((a = 17 ∧ (j = 2 ∨ j = 3 ∨ j = 59 ∨ j = 60)) ∨ (60 ≤ a ∧ a ≤ 66))) := g
          rw [c3 a j (by omega) (by omega), G1 a j (by unfold rdM; omega)]
        have F03 : ∀ a j, ¬ stC a j → ¬ rdC0 a j → h3 a j = h a j := fun a j g1 g2 => by
          have g1' : ¬ ((a = 24 ∧ (j = 3 ∨ j = 4)) ∨ (28 ≤ a ∧ a ≤ 275)) := g1
          have g2' : ¬ (360 ≤ a ∧ a ≤ 364) := g2
          rw [F3 a j (by unfold gvC stC; omega), F1 a j (by unfold olC rdC0; omega)]
        refine p_stands C3 ?_ ?_
        · intro h4 R4 F4
          simp only [e_kIv]
          refine J_negL (by omega) (J_negR (by omega) ?_)
          try refine J_posL rfl ?_
          have e26 : h4 26 p = 252 + 6 * p := R4.1.2.1 p (by omega) (by omega)
          have FN := R4.2.2.1 p (by omega) (by omega)
          unfold FNT at FN
          rw [FO_4 (by omega)] at FN
          have i55 : w3 55 p = 1 := by rw [xF, show p + 1 - 1 = p by omega] at i55; exact i55
          obtain ⟨⟨_, m2, _, _⟩, _⟩ := FN.2.2 i55
          rw [e26, m2]
          repeat (first | refine J_andL (by first | omega | (constructor <;> omega)) ?_ | refine J_andR (by first | omega | (constructor <;> omega)) ?_ | refine J_posL (by first | omega | (constructor <;> omega)) ?_ | refine J_negL (by first | omega | (constructor <;> omega)) ?_ | refine J_posR (by first | omega | (constructor <;> omega)) ?_ | refine J_negR (by first | omega | (constructor <;> omega)) ?_)
          refine J_end ⟨⟨_, rfl, rfl⟩, by omega, rfl, ⟨β', rst_t R4 (fun a j g => st_na (by omega)) (fun _ _ _ => rfl) (fun q a b => FNT_t (R4.2.2.1 q a b) (fun j _ _ => st_na (by rw [FO_4 b]; omega)) (fun i _ _ => ⟨st_na (by rw [FO_4 b]; omega), st_na (by rw [FO_4 b]; omega)⟩) ⟨rfl, rfl, rfl⟩ (fun _ _ _ => ⟨rfl, rfl⟩))⟩, by rw [st_eq, c3 17 3 (by omega) (by omega)]; exact z3.symm, fun a j g => ?_, G03⟩
          have g' : ¬ (((a = 24 ∧ (j = 3 ∨ j = 4)) ∨ (28 ≤ a ∧ a ≤ 275)) ∨ (360 ≤ a ∧ a ≤ 364) ∨ (a = 17 ∧ j = 15) ∨ a = n) := g
          rw [st_other (by omega), F4 a j (by unfold ctC; omega)]
          exact F03 a j (by unfold stC; omega) (by unfold rdC0; omega)
        · intro h4 w4 R4 F4 G4 kp4
          simp only [e_kIv]
          refine J_posL (by first | trivial | rfl) (J_posR (by first | trivial | rfl) ?_)
          refine J_end ⟨⟨_, rfl, rfl⟩, by omega, rfl, ⟨β, rsb_m R4 (fun a j x y => st_na (by omega))⟩, ?_, fun a j g => ?_, fun a j g => ?_⟩
          · rw [st_eq, F4 17 15 (by unfold nsC ctC fnC; omega), F03 17 15 (by unfold stC; omega) (by unfold rdC0; omega)]; exact pl
          · have g' : ¬ (((a = 24 ∧ (j = 3 ∨ j = 4)) ∨ (28 ≤ a ∧ a ≤ 275)) ∨ (360 ≤ a ∧ a ≤ 364) ∨ (a = 17 ∧ j = 15) ∨ a = n) := g
            rw [F4 a j (by unfold nsC ctC fnC; omega)]
            exact F03 a j (by unfold stC; omega) (by unfold rdC0; omega)
          · have g' : ¬ ((52 ≤ a ∧ a ≤ 59) ∨ ((a = 17 ∧ (j = 2 ∨ j = 3 ∨ j = 59 ∨ j = 60)) ∨ (60 ≤ a ∧ a ≤ 66))) := g
            rw [st_other (by omega), G4 a j (by unfold unM; omega)]
            exact G03 a j g
      · intro y h1 w1 y0 R1 e1 F1 G1
        simp only [e_kIv]
        refine J_posR y0 ?_
        exact J_end ⟨⟨_, rfl, rfl⟩, by omega, rfl, R1, e1, F1, G1⟩
    · rw [bz_f gp]
      repeat (first | refine J_andL (by first | omega | (constructor <;> omega)) ?_ | refine J_andR (by first | omega | (constructor <;> omega)) ?_ | refine J_posL (by first | omega | (constructor <;> omega)) ?_ | refine J_negL (by first | omega | (constructor <;> omega)) ?_ | refine J_posR (by first | omega | (constructor <;> omega)) ?_ | refine J_negR (by first | omega | (constructor <;> omega)) ?_)
      exact J_end ⟨⟨_, rfl, rfl⟩, by omega, rfl, R, pl, Fz_0, Fz_0⟩
  · rw [bz_f gr]
    repeat (first | refine J_andL (by first | omega | (constructor <;> omega)) ?_ | refine J_andR (by first | omega | (constructor <;> omega)) ?_ | refine J_posL (by first | omega | (constructor <;> omega)) ?_ | refine J_negL (by first | omega | (constructor <;> omega)) ?_ | refine J_posR (by first | omega | (constructor <;> omega)) ?_ | refine J_negR (by first | omega | (constructor <;> omega)) ?_)
    exact J_end ⟨⟨_, rfl, rfl⟩, by omega, rfl, R, pl, Fz_0, Fz_0⟩
end
