set_option maxRecDepth 100000
theorem FDS_u {f g : Int → Int} {v c r r' : Int} (A : FDS f v c r) (B : FDS g v c r') (e : ∀ i, 0 ≤ i → i < c → f i = g i) (r0 : 0 ≤ r) (r1 : 0 ≤ r') : r = r' := by
  rcases A with ⟨a, _⟩ | ⟨a1, a2, a3, a4⟩
  · omega
  · rcases B with ⟨b, _⟩ | ⟨b1, b2, b3, b4⟩
    · omega
    · by_cases q : r < r'
      · exact absurd ((e r a1 a2) ▸ a3) (b4 r a1 q)
      · by_cases q2 : r' < r
        · exact absurd ((e r' b1 b2).symm ▸ b3) (a4 r' b1 q2)
        · omega
section
variable {A B : Qt → Prop} {Φ : Out → Int → Mem → Out → Int → Mem → Prop} {KL KM : Qt → Qt} {n m : Int} {h w : Mem}
/-- a body of the view is a body of the store -/
theorem VB_d {β : Int → Int} {p v j k b : Int} (R : RSB β h w) (p0 : 0 ≤ p ∧ p < 4) (hp : w 55 p = 1) (V : VB p v j k b h w) : bsy h k ∧ β k = b ∧ ∃ r, (0 ≤ r ∧ r < w 57 p) ∧ w 58 (16 * p + r) = v := by
  obtain ⟨⟨k0, b0, -⟩, -, ⟨r', F', e', -⟩, ⟨r, F, e, -⟩⟩ := V
  have N := R.2.2.1 p p0.1 p0.2
  have f9 := N.2.2 hp
  rw [FO_4 p0.2] at f9
  obtain ⟨⟨f1, f2, f3, f4⟩, f5⟩ := f9
  have r0 : 0 ≤ r := by
    by_cases q : r < 0
    · rw [if_pos q] at e; omega
    · omega
  have r0' : 0 ≤ r' := by
    by_cases q : r' < 0
    · rw [if_pos q] at e'; omega
    · omega
  rw [if_neg (by omega)] at e e'
  rw [f2] at F
  have er : r = r' := FDS_u F F' (fun i i0 i1 => (f5 i i0 i1).1.1) r0 r0'
  subst er
  rcases F' with ⟨z, _⟩ | ⟨_, z2, z3, _⟩
  · omega
  obtain ⟨_, _, kk, d, e1, e2⟩ := f5 r r0 z2
  have ek : kk = k := by omega
  subst ek
  exact ⟨d, by rw [e', e2], r, ⟨r0, z2⟩, z3⟩
/-- a table that is there gets another body (484 / 319) -/
theorem p_putE {β0 β : Int → Int} {D : Int → Prop} {c1 c2 p v k r : Int} {h0 w0 : Mem} (C : CHG β0 β D c1 c2 h0 w0 h w) (p0 : 0 ≤ p ∧ p < 4) (hp : w 55 p = 1) (kD : D k) (r0 : 0 ≤ r ∧ r < w 57 p) (ev : w 58 (16 * p + r) = v) (tx : ∀ q i, (0 ≤ q ∧ q < 4) → w 55 q = 1 → (0 ≤ i ∧ i < w 57 q ∧ i < 16) → w 59 (16 * q + i) = β k → w 58 (16 * q + i) = v) :
    Ev gC 484 [vR 7 (252 + 6 * p), vL v, vR 2 (28 + 2 * k)] n h (.inl (some (vI 1))) n (st h (252 + 6 * p + 2) r (28 + 2 * k)) ∧ Ev gM 319 [vR 33 17, vI p, vL v, vI (β k)] m w (.inl none) m (st w 59 (16 * p + r) (β k)) ∧ CHG β0 β D c1 c2 h0 w0 (st h (252 + 6 * p + 2) r (28 + 2 * k)) (st w 59 (16 * p + r) (β k)) := by
  obtain ⟨-, -, Bd, FTs, -⟩ := id C
  have N := FTs p p0.1 p0.2
  have f9 := N.2.2 hp
  rw [FO_4 p0.2] at f9
  obtain ⟨⟨f1, f2, f3, f4⟩, f5⟩ := f9
  have z := (fsz6 (p := p) p0).1
  have kb := (Bd.1 k kD).1
  have ft1 := N.1
  rw [FO_4 p0.2] at ft1
  obtain ⟨q, q0, q1, q2⟩ := lub_ex (f := fun i => w 58 (16 * p + i)) (v := v) f3 (fun i a b => by
    have := (f5 i (by omega) b).2.1 a
    show w 58 (16 * p + (i - 1)) < w 58 (16 * p + i)
    rw [show 16 * p + (i - 1) = 16 * p + i - 1 by omega]; exact this)
  have q1 : ∀ i, 0 ≤ i → i < q → w 58 (16 * p + i) < v := q1
  have q2 : ∀ i, q ≤ i → i < w 57 p → v ≤ w 58 (16 * p + i) := q2
  have q3 : ∀ i, q < i → i < w 57 p → v < w 58 (16 * p + i) := fun i a b => by
    have x1 := q2 (i - 1) (by omega) (by omega)
    have x2 := (f5 i (by omega) b).2.1 (by omega)
    rw [show 16 * p + (i - 1) = 16 * p + i - 1 by omega] at x1
    omega
  have hw : ∀ i, 0 ≤ i → i < w 57 p → h (252 + 6 * p + 1) i = w 58 (16 * p + i) := fun i a b => (f5 i a b).1.1
  have eq : q = r := by
    by_cases y : r < q
    · have := q1 r r0.1 y; omega
    · by_cases y2 : q < r
      · have := q3 r y2 r0.2; omega
      · omega
  subst eq
  rcases c_put9 (n := n) (h := h) (a := 252 + 6 * p) (v := v) (x := 28 + 2 * k) (k := q) (by omega) (by omega) z (by omega) (by omega) (fun i a b => by rw [hw i a (by omega)]; exact q1 i a b) (fun i a b => by rw [hw i (by omega) (by omega)]; exact q2 i a (by omega)) (fun i a b => by
    obtain ⟨_, _, k', d, e, _⟩ := f5 i a (by omega)
    have := (Bd.1 k' d).1
    omega) with ⟨g1, g2, evc⟩ | ⟨g, c16, evc⟩ | ⟨g, c16, _⟩
  · refine ⟨evc, m_give1 (by omega) (by omega) r0 q1 ev, cg_f C p0 (Fz_st Fz_0 (by omega)) (Fz_st Fz_0 (by omega)) ?_ (TG_p (p := p) C.2.2.2.2.2.2.2 p0 hp (fun q _ _ => ⟨st_na (by omega), fun _ => st_na (by omega)⟩) (fun j _ _ _ => ⟨st_na (by omega), st_nj (by omega)⟩) tx (fun i i0 i1 i2 => by
      rw [st_na (by omega)] at i1
      by_cases e : i = q
      · rw [e, st_eq, st_na (by omega)]; exact Or.inl ⟨rfl, ev⟩
      · rw [st_nj (by omega), st_na (by omega)]; exact Or.inr ⟨i, ⟨i0, i1, i2⟩, rfl, rfl⟩))⟩
    refine ⟨by rw [FO_4 p0.2, st_na (by omega), st_na (by omega)]; exact ft1, by rw [st_na (by omega)]; exact Or.inr hp, fun _ => ?_⟩
    rw [FO_4 p0.2]
    refine ⟨by rw [st_na (by omega), st_na (by omega), st_na (by omega), st_na (by omega)]; exact ⟨f1, f2, f3, f4⟩, fun i i0 i1 => ?_⟩
    rw [st_na (by omega)] at i1
    obtain ⟨x1, x2, k', x3, x4, x5⟩ := f5 i i0 i1
    rw [st_na (show (252 + 6 * p + 1) ≠ 252 + 6 * p + 2 by omega), st_na (show (58 : Int) ≠ 59 by omega), st_na (show (58 : Int) ≠ 59 by omega)]
    refine ⟨x1, x2, ?_⟩
    by_cases e : i = q
    · exact ⟨k, kD, by rw [e, st_eq], by rw [e, st_eq]⟩
    · exact ⟨k', x3, by rw [st_nj e]; exact x4, by rw [st_nj (by omega)]; exact x5⟩
  · have := g (by omega)
    rw [hw q r0.1 r0.2] at this
    omega
  · have := g (by omega)
    rw [hw q r0.1 r0.2] at this
    omega
/-- a copy of a body, by the house (477) -/
theorem cg_copy {β0 β : Int → Int} {D : Int → Prop} {c1 c2 k1 : Int} {h0 w0 : Mem} (C : CHG β0 β D c1 c2 h0 w0 h w) (cc : c1 < 72) (kD : D k1) : ∃ (k : Int) (h1 : Mem), (0 ≤ k ∧ k < 112) ∧ ¬ D k ∧ Ev gC 477 [vR 5 24, vR 2 (28 + 2 * k1)] n h (.inl (some (vR 2 (28 + 2 * k)))) n h1 ∧ CHG β0 β D (c1 + 1) c2 h0 w0 h1 w ∧ h1 (28 + 2 * k) 3 = 1 ∧ h1 (28 + 2 * k) 1 = h (28 + 2 * k1) 1 ∧ (∀ i, 0 ≤ i → i < h (28 + 2 * k1) 1 → h1 (29 + 2 * k) i = h (29 + 2 * k1) i) ∧ Fz (fun a _ => a = 28 + 2 * k ∨ a = 29 + 2 * k) h h1 := by
  obtain ⟨k, k0, nk, kb, ev1, C2⟩ := cg_fresh (n := n) C cc
  have zb := bsz k0
  obtain ⟨kk0, bb0, sz1, sz2, by1⟩ := C.2.2.1.1 k1 kD
  have zb1 := bsz kk0
  have ne : k1 ≠ k := fun e => nk (e ▸ kD)
  have s2 : (st (st (st h (28 + 2 * k) 3 1) (28 + 2 * k) 1 0) (28 + 2 * k) 2 0) (28 + 2 * k1) 1 = h (28 + 2 * k1) 1 := by rw [st_na (by omega), st_na (by omega), st_na (by omega)]
  have F2 : Fz (fun a _ => a = 28 + 2 * k) h (st (st (st h (28 + 2 * k) 3 1) (28 + 2 * k) 1 0) (28 + 2 * k) 2 0) := fun a j g => by
    have g' : a ≠ 28 + 2 * k := g
    rw [st_na g', st_na g', st_na g']
  have e3 : (st (st (st h (28 + 2 * k) 3 1) (28 + 2 * k) 1 0) (28 + 2 * k) 2 0) (28 + 2 * k) 3 = 1 := by rw [st_nj (by omega), st_nj (by omega), st_eq]
  revert ev1 C2 s2 F2 e3
  generalize (st (st (st h (28 + 2 * k) 3 1) (28 + 2 * k) 1 0) (28 + 2 * k) 2 0) = h2
  intro ev1 C2 s2 F2 e3
  obtain ⟨h3, ev2, y1, y2, c3, F3⟩ := c_becm (o := 28 + 2 * k) (p := 28 + 2 * k1) (n := n) (h := h2) (by omega) (by omega) (by omega) (by rw [show 28 + 2 * k + 1 = 29 + 2 * k by omega, zb]; omega) (by omega) (by rw [show 28 + 2 * k + 1 = 29 + 2 * k by omega, zb]; omega) (by rw [show 28 + 2 * k1 + 1 = 29 + 2 * k1 by omega, zb1]; omega)
  rw [show 28 + 2 * k + 1 = 29 + 2 * k by omega, show 28 + 2 * k1 + 1 = 29 + 2 * k1 by omega] at c3
  have e3' : h3 (28 + 2 * k) 3 = 1 := (F3 _ _ (by omega)).trans e3
  have C3 := cg_h (c := c1 + 1) C2 k0 nk (Fz_mo F3 (fun a j g => by omega)) (Or.inr e3') (by rw [e3, e3']; have := C2.2.2.2.2.1.2.2.2.1; omega)
  refine ⟨k, h3, k0, nk, ?_, C3, e3', by omega, fun i i0 i1 => ?_, Fz_tr (Fz_mo F2 (fun a j g => Or.inl g)) (Fz_mo F3 (fun a j g => by omega))⟩
  · intro Q hQ
    refine T_go (md := true) [some (vR 5 24), some (vR 2 (28 + 2 * k1)), none] [] 99 (by decide) rfl (Nat.le_of_ble_eq_true rfl) GC FC rfl k477 ?_
    simp -implicitDefEqProofs only [r_iconst, r_bipush, r_sipush, r_ldc, r_ldc_w, r_lconst, r_ldc2_w, r_aconst_null, r_iload, r_iload_n, r_lload, r_lload_n, r_aload, r_aload_n, r_istore, r_istore_n, r_lstore, r_lstore_n, r_astore, r_astore_n, r_iinc, r_iadd, r_iaddW, r_isub, r_isubW, r_imul, r_imulW, r_ladd, r_laddW, r_lsub, r_lsubW, r_lmul, r_lmulW, r_iand, r_ior, r_ishl, r_ishr, r_iushr, r_land, r_lor, r_lshl, r_lshr, r_lushr, r_idiv, r_irem, r_ldiv, r_lrem, r_lcmp, r_ineg, r_i2l, r_l2i, r_i2b, r_i2s, r_i2c, r_dup, r_pop, r_dup_x1, r_dup_x2, r_dup2, r_dup2L, r_icmp_eq, r_icmp_ne, r_icmp_lt, r_icmp_ge, r_icmp_gt, r_icmp_le, r_if_eq, r_if_ne, r_if_lt, r_if_ge, r_if_gt, r_if_le, r_acmp_eq, r_acmp_ne, r_ifnull, r_ifnonnull, r_goto, r_nop, r_tsw, r_lsw, r_getfield, r_getfinal, r_putfield, r_getstaticL, r_getstaticR, r_iaload, r_baload, r_saload, r_laload, r_aaload, r_aaloadM, r_iastore, r_bastore, r_zastore, r_sastore, r_lastore, r_aastore, r_alen, r_new, r_newarray, r_anewarray, r_invV, r_invI, r_objI, r_invS, r_acp, r_ireturn, r_zreturn, r_lreturn, r_return, r_areturn, r_athrow, ↓e_pI, ↓e_pL, ↓e_pR, ↓e_lg0, ↓e_lg1, ↓e_tk0, ↓e_tkI0, ↓e_tkI1, ↓e_tkI2, ↓e_tkI3, ↓e_tkI4, ↓e_tkL, ↓e_tkR0_0, ↓e_tkR0_1, ↓e_tkR1_0, ↓e_tkR1_1, ↓e_tkR2_0, ↓e_tkR2_1, ↓e_tkR3_0, ↓e_tkR3_1, ↓e_tkR4_0, ↓e_tkR4_1, ↓e_tkR5_0, ↓e_tkR5_1, ↓e_tkR6_0, ↓e_tkR6_1, ↓e_tkR7_0, ↓e_tkR7_1, ↓e_tkR8_0, ↓e_tkR8_1, ↓e_tkR9_0, ↓e_tkR9_1, ↓e_tkR10_0, ↓e_tkR10_1, ↓e_tkR11_0, ↓e_tkR11_1, ↓e_tkR12_0, ↓e_tkR12_1, ↓e_tkR13_0, ↓e_tkR13_1, ↓e_tkR14_0, ↓e_tkR14_1, ↓e_tkR15_0, ↓e_tkR15_1, ↓e_tkR16_0, ↓e_tkR16_1, ↓e_tkR17_0, ↓e_tkR17_1, ↓e_tkR39_0, ↓e_tkR39_1, ↓e_tkR40_0, ↓e_tkR40_1, ↓e_tkR41_0, ↓e_tkR41_1, ↓e_tkR42_0, ↓e_tkR42_1, ↓e_tkR43_0, ↓e_tkR43_1, ↓e_tkR44_0, ↓e_tkR44_1, ↓e_tkR45_0, ↓e_tkR45_1, ↓e_tkR46_0, ↓e_tkR46_1, ↓e_tkR47_0, ↓e_tkR47_1, ↓e_tkR48_0, ↓e_tkR48_1, ↓e_pv0, ↓e_pv1, ↓e_pv2, ↓e_pv3, ↓e_pv5, ↓e_pvR, ↓e_tsw0, ↓e_tsw1, ↓e_lsw0, ↓e_lsw1, e_kq100, e_kq0, e_kq3, e_kq5, e_kqR0, e_kqR1, e_kqR2, e_kqR3, e_kqR4, e_kqR5, e_kqR6, e_kqR7, e_kqR8, e_kqR9, e_kqR10, e_kqR11, e_kqR12, e_kqR13, e_kqR14, e_kqR15, e_kqR16, e_kqR17, e_kqR39, e_kqR40, e_kqR41, e_kqR42, e_kqR43, e_kqR44, e_kqR45, e_kqR46, e_kqR47, e_kqR48, e_st0I, e_st0R, e_st0L, e_st1N, e_st1I, e_st1L, e_st1R, e_st2, e_wd0, e_wdI, e_wdL, e_wdR, e_c1I, e_c1R, e_gv0, e_gv1, e_gv2, e_gv3, e_gv4, e_gv5, e_gvR0, e_gvR1, e_gvR2, e_gvR3, e_gvR4, e_gvR5, e_gvR6, e_gvR7, e_gvR8, e_gvR9, e_gvR10, e_gvR11, e_gvR12, e_gvR13, e_gvR14, e_gvR15, e_gvR16, e_gvR17, e_gvR39, e_gvR40, e_gvR41, e_gvR42, e_gvR43, e_gvR44, e_gvR45, e_gvR46, e_gvR47, e_gvR48, e_kX0, e_kX1, e_kVv, e_kVx, e_kIv, e_kIx, e_kLv, e_kLx, e_kRv, e_kRx, e_thr, e_lk1, e_ic0, e_ic1, e_jm, st_ap, clr_ap, e_lceq, e_lclt, e_lcgt, nn, ↓reduceIte, Nat.reduceDiv, Nat.reduceMod, Nat.reduceMul, Nat.reduceAdd, Nat.reduceEqDiff, Nat.reduceLeDiff, Int.reduceNatCast, Int.cast_ofNat_Int, Int.reduceSub, Int.reduceMul, Int.reduceNeg, Int.reduceAdd, Int.reduceLE, Int.reduceLT, Int.reduceEq, Int.reduceNe, true_and, and_true, true_or, and_self, ne_eq, not_false_eq_true, Bool.false_eq_true, reduceCtorEq, rd_l1, rd_l2, rd_l3, rd_l4, rd_l5, rd_l6, rd_l7, rd_l8, rd_l9, SB, rd_ge, i2b_2, false_and, and_false, not_true_eq_false, l477_0, s477_0, zC_18, zC_20, zC_21, zC_22, zC_23, zC_25, zC_26, zC_253, zC_254, zC_256, zC_257, zC_259, zC_260, zC_262, zC_263, zC_265, zC_266, zC_268, zC_269, zC_271, zC_272, zC_274, zC_275, zC_278, zC_279, zC_280, zC_281, zC_282, zC_284, zC_285, zC_287, zC_288, zC_290, zC_291, zC_293, zC_294, zC_296, zC_297, zC_299, zC_300, zC_302, zC_303, zC_304, zC_305, zC_306, zC_307, zC_308, zC_309, zC_310, zC_311, zC_312, zC_315, zC_316, zC_317, zC_319, zC_320, zC_321, zC_323, zC_324, zC_325, zC_327, zC_328, zC_329, zC_331, zC_332, zC_333, zC_335, zC_336, zC_337, zC_339, zC_340, zC_341, zC_343, zC_344, zC_345, zC_347, zC_348, zC_349, zC_350, zC_351, zC_352, zC_353, zC_354, zC_355, zC_356, zC_357, zC_358, zC_359, zC_361, zC_362, zC_363, zC_364, zC_367, zC_368, zC_369, zC_370, zC_371, zC_372, zC_373, zC_374, zC_375, zC_376, zC_378, zC_380, zC_381, zC_383, zC_384, zC_386, zC_387, zC_389, zC_390, zC_391, zC_392, zC_393, zC_394, zC_395, zC_396, zC_397, zC_398, zC_400, zC_402, zC_403, zC_405, zC_407, zC_409, zC_411, zC_413, zC_415, zC_417, zC_420, zC_421, zC_422, zC_423, zC_424, zC_425, zC_427, zC_429, zC_431, zC_433, zC_436, zC_437, zC_438, zC_439, zC_440, zC_441, zC_442, zC_443, zC_444, zC_445, zC_447, zC_448, zC_450, zC_451, zC_453, zC_454, zC_455, zC_456, zC_457, zC_458, zC_460, zC_461, zC_462, zC_463, zC_464, zC_465, zC_466, zC_467, zC_468, zC_469, zC_471, zC_473, zC_474, zC_476, zC_477, zC_478, zC_479, zC_480, zC_481, zC_482, zC_483, zC_484, zC_485, zC_487, zC_489, zC_490, zC_491, zC_493, zC_495, zC_497, zC_499]
    refine ev1 _ ?_
    simp only [e_kRv]
    refine ⟨trivial, by omega, ev2 _ ?_⟩
    exact hQ
  · rw [c3 i i0 (by omega), F2 _ _ (by show ¬ (_ = _); omega)]
/-- a copy of a body, by the model (390) -/
theorem mg_copy {β0 β : Int → Int} {D : Int → Prop} {c1 c2 b1 x : Int} {h0 w0 : Mem} (C : CHG β0 β D c1 c2 h0 w0 h w) (cc : c2 < 80) (x0 : 0 ≤ x ∧ x ≤ 12000) (b10 : 0 ≤ b1 ∧ b1 < 120) (tied : ∃ k, D k ∧ β k = b1) (xs : x ≤ w 53 b1) (by1 : ∀ i, 0 ≤ i → i < x → -128 ≤ w 52 (12000 * b1 + i) ∧ w 52 (12000 * b1 + i) ≤ 127) : ∃ (b : Int) (w1 : Mem), (0 ≤ b ∧ b < 120) ∧ (∀ k, D k → β k ≠ b) ∧ Ev gM 390 [vR 33 17, vI b1, vI x] m w (.inl (some (vI b))) m w1 ∧ w1 54 b = 1 ∧ w1 53 b = x ∧ (∀ i, 0 ≤ i → i < x → w1 52 (12000 * b + i) = w 52 (12000 * b1 + i)) ∧ Fz (fun a j => ((a = 53 ∨ a = 54) ∧ j = b) ∨ (a = 52 ∧ 12000 * b ≤ j ∧ j < 12000 * b + 12000)) w w1 ∧ CHG β0 β D c1 (c2 + 1) h0 w0 h w1 := by
  obtain ⟨b, w1, b0, nb, ev, d1, d2, d3, G, C1⟩ := mg_fresh (m := m) C cc x0
  have ne : b ≠ b1 := by obtain ⟨k, d, e⟩ := tied; have := nb k d; omega
  -- the loop
  have key := lp (F := fun i => ∀ w2 : Mem, (∀ j, 0 ≤ j → j < i → w2 52 (12000 * b + j) = w 52 (12000 * b1 + j)) → Fz (fun a j => a = 52 ∧ 12000 * b ≤ j ∧ j < 12000 * b + x) w1 w2 → ∃ w3 : Mem, (∀ j, 0 ≤ j → j < x → w3 52 (12000 * b + j) = w 52 (12000 * b1 + j)) ∧ Fz (fun a j => a = 52 ∧ 12000 * b ≤ j ∧ j < 12000 * b + x) w1 w3 ∧ EvA gM 390 9 [some (vR 33 17), some (vI b1), some (vI x), some (vI b), some (vI i)] [] m w2 (.inl (some (vI b))) m w3) (b := 0) (n := x) x0.1 ?_ ?_
  · obtain ⟨w3, D3, G3, ev3⟩ := key w1 (fun j _ _ => by omega) Fz_0
    have l3 : w3 54 b = 1 := (G3 _ _ (by omega)).trans d1
    have C2 := cg_w (c := c2 + 1) C1 b0 nb (Fz_mo G3 (fun a j g => by omega)) (Or.inr l3) (by rw [d1, l3]; have := C1.2.2.2.2.1.2.2.2.2; omega)
    refine ⟨b, w3, b0, nb, ?_, l3, (G3 _ _ (by omega)).trans d2, D3, Fz_tr (Fz_mo G (fun a j g => by omega)) (Fz_mo G3 (fun a j g => by omega)), C2⟩
    intro Q hQ
    refine T_go (md := true) [some (vR 33 17), some (vI b1), some (vI x), none, none] [9] 99 (by decide) rfl (Nat.le_of_ble_eq_true rfl) GM FM rfl k390 ?_
    simp -implicitDefEqProofs only [r_iconst, r_bipush, r_sipush, r_ldc, r_ldc_w, r_lconst, r_ldc2_w, r_aconst_null, r_iload, r_iload_n, r_lload, r_lload_n, r_aload, r_aload_n, r_istore, r_istore_n, r_lstore, r_lstore_n, r_astore, r_astore_n, r_iinc, r_iadd, r_iaddW, r_isub, r_isubW, r_imul, r_imulW, r_ladd, r_laddW, r_lsub, r_lsubW, r_lmul, r_lmulW, r_iand, r_ior, r_ishl, r_ishr, r_iushr, r_land, r_lor, r_lshl, r_lshr, r_lushr, r_idiv, r_irem, r_ldiv, r_lrem, r_lcmp, r_ineg, r_i2l, r_l2i, r_i2b, r_i2s, r_i2c, r_dup, r_pop, r_dup_x1, r_dup_x2, r_dup2, r_dup2L, r_icmp_eq, r_icmp_ne, r_icmp_lt, r_icmp_ge, r_icmp_gt, r_icmp_le, r_if_eq, r_if_ne, r_if_lt, r_if_ge, r_if_gt, r_if_le, r_acmp_eq, r_acmp_ne, r_ifnull, r_ifnonnull, r_goto, r_nop, r_tsw, r_lsw, r_getfield, r_getfinal, r_putfield, r_getstaticL, r_getstaticR, r_iaload, r_baload, r_saload, r_laload, r_aaload, r_aaloadM, r_iastore, r_bastore, r_zastore, r_sastore, r_lastore, r_aastore, r_alen, r_new, r_newarray, r_anewarray, r_invV, r_invI, r_objI, r_invS, r_acp, r_ireturn, r_zreturn, r_lreturn, r_return, r_areturn, r_athrow, ↓e_pI, ↓e_pL, ↓e_pR, ↓e_lg0, ↓e_lg1, ↓e_tk0, ↓e_tkI0, ↓e_tkI1, ↓e_tkI2, ↓e_tkI3, ↓e_tkI4, ↓e_tkL, ↓e_tkR0_0, ↓e_tkR0_1, ↓e_tkR1_0, ↓e_tkR1_1, ↓e_tkR2_0, ↓e_tkR2_1, ↓e_tkR3_0, ↓e_tkR3_1, ↓e_tkR4_0, ↓e_tkR4_1, ↓e_tkR5_0, ↓e_tkR5_1, ↓e_tkR6_0, ↓e_tkR6_1, ↓e_tkR7_0, ↓e_tkR7_1, ↓e_tkR8_0, ↓e_tkR8_1, ↓e_tkR9_0, ↓e_tkR9_1, ↓e_tkR10_0, ↓e_tkR10_1, ↓e_tkR11_0, ↓e_tkR11_1, ↓e_tkR12_0, ↓e_tkR12_1, ↓e_tkR13_0, ↓e_tkR13_1, ↓e_tkR14_0, ↓e_tkR14_1, ↓e_tkR15_0, ↓e_tkR15_1, ↓e_tkR16_0, ↓e_tkR16_1, ↓e_tkR17_0, ↓e_tkR17_1, ↓e_tkR39_0, ↓e_tkR39_1, ↓e_tkR40_0, ↓e_tkR40_1, ↓e_tkR41_0, ↓e_tkR41_1, ↓e_tkR42_0, ↓e_tkR42_1, ↓e_tkR43_0, ↓e_tkR43_1, ↓e_tkR44_0, ↓e_tkR44_1, ↓e_tkR45_0, ↓e_tkR45_1, ↓e_tkR46_0, ↓e_tkR46_1, ↓e_tkR47_0, ↓e_tkR47_1, ↓e_tkR48_0, ↓e_tkR48_1, ↓e_pv0, ↓e_pv1, ↓e_pv2, ↓e_pv3, ↓e_pv5, ↓e_pvR, ↓e_tsw0, ↓e_tsw1, ↓e_lsw0, ↓e_lsw1, e_kq100, e_kq0, e_kq3, e_kq5, e_kqR0, e_kqR1, e_kqR2, e_kqR3, e_kqR4, e_kqR5, e_kqR6, e_kqR7, e_kqR8, e_kqR9, e_kqR10, e_kqR11, e_kqR12, e_kqR13, e_kqR14, e_kqR15, e_kqR16, e_kqR17, e_kqR39, e_kqR40, e_kqR41, e_kqR42, e_kqR43, e_kqR44, e_kqR45, e_kqR46, e_kqR47, e_kqR48, e_st0I, e_st0R, e_st0L, e_st1N, e_st1I, e_st1L, e_st1R, e_st2, e_wd0, e_wdI, e_wdL, e_wdR, e_c1I, e_c1R, e_gv0, e_gv1, e_gv2, e_gv3, e_gv4, e_gv5, e_gvR0, e_gvR1, e_gvR2, e_gvR3, e_gvR4, e_gvR5, e_gvR6, e_gvR7, e_gvR8, e_gvR9, e_gvR10, e_gvR11, e_gvR12, e_gvR13, e_gvR14, e_gvR15, e_gvR16, e_gvR17, e_gvR39, e_gvR40, e_gvR41, e_gvR42, e_gvR43, e_gvR44, e_gvR45, e_gvR46, e_gvR47, e_gvR48, e_kX0, e_kX1, e_kVv, e_kVx, e_kIv, e_kIx, e_kLv, e_kLx, e_kRv, e_kRx, e_thr, e_lk1, e_ic0, e_ic1, e_jm, st_ap, clr_ap, e_lceq, e_lclt, e_lcgt, nn, ↓reduceIte, Nat.reduceDiv, Nat.reduceMod, Nat.reduceMul, Nat.reduceAdd, Nat.reduceEqDiff, Nat.reduceLeDiff, Int.reduceNatCast, Int.cast_ofNat_Int, Int.reduceSub, Int.reduceMul, Int.reduceNeg, Int.reduceAdd, Int.reduceLE, Int.reduceLT, Int.reduceEq, Int.reduceNe, true_and, and_true, true_or, and_self, ne_eq, not_false_eq_true, Bool.false_eq_true, reduceCtorEq, rd_l1, rd_l2, rd_l3, rd_l4, rd_l5, rd_l6, rd_l7, rd_l8, rd_l9, SB, rd_ge, i2b_2, false_and, and_false, not_true_eq_false, l390_0, l390_9, l390_58, s390_0, s390_9, s390_58, zM_18, zM_19, zM_20, zM_21, zM_22, zM_23, zM_24, zM_25, zM_26, zM_27, zM_28, zM_29, zM_30, zM_31, zM_32, zM_33, zM_34, zM_35, zM_36, zM_37, zM_38, zM_39, zM_40, zM_41, zM_42, zM_43, zM_44, zM_45, zM_46, zM_47, zM_48, zM_49, zM_50, zM_51, zM_52, zM_53, zM_54, zM_55, zM_56, zM_57, zM_58, zM_59, zM_60, zM_61, zM_62, zM_63, zM_64, zM_65, zM_66, zM_67, zM_68, zM_69, zM_70, zM_71, zM_72, zM_73, zM_74, zM_75, zM_76, zM_77, zM_78, zM_79, zM_80, zM_81, zM_82, zM_83, zM_84, zM_85, zM_86, zM_87, zM_88, zM_89, zM_90, zM_91, zM_92, zM_93, zM_94, zM_95, zM_96, zM_97, zM_98, zM_99, zM_100, zM_101, zM_102, zM_103, zM_104, zM_105, zM_106, zM_107, zM_108, zM_109, zM_110, zM_111, zM_112, zM_113, zM_114, zM_115, zM_116, zM_117, zM_118, zM_119]
    refine ev _ ?_
    exact ev3 _ hQ
  · intro i i0 i1 ih w2 D2 G2
    have e53 : w2 53 b1 = w 53 b1 := by rw [G2 _ _ (by omega), G _ _ (by omega)]
    have e52 : w2 52 (12000 * b1 + i) = w 52 (12000 * b1 + i) := by rw [G2 _ _ (by omega), G _ _ (by omega)]
    have bb := by1 i i0 i1
    obtain ⟨w3, D3, G3, ev3⟩ := ih (st w2 52 (12000 * b + i) (w 52 (12000 * b1 + i))) (fun j j0 j1 => by
      by_cases e : j = i
      · rw [e, st_eq]
      · rw [st_nj (by omega)]; exact D2 j j0 (by omega)) (Fz_st G2 (by omega))
    refine ⟨w3, D3, G3, fun Q hQ => ?_⟩
    have z := ev3 Q hQ
    refine blk (md := true) [9] 99 GM FM rfl k390 ?_
    simp -implicitDefEqProofs only [r_iconst, r_bipush, r_sipush, r_ldc, r_ldc_w, r_lconst, r_ldc2_w, r_aconst_null, r_iload, r_iload_n, r_lload, r_lload_n, r_aload, r_aload_n, r_istore, r_istore_n, r_lstore, r_lstore_n, r_astore, r_astore_n, r_iinc, r_iadd, r_iaddW, r_isub, r_isubW, r_imul, r_imulW, r_ladd, r_laddW, r_lsub, r_lsubW, r_lmul, r_lmulW, r_iand, r_ior, r_ishl, r_ishr, r_iushr, r_land, r_lor, r_lshl, r_lshr, r_lushr, r_idiv, r_irem, r_ldiv, r_lrem, r_lcmp, r_ineg, r_i2l, r_l2i, r_i2b, r_i2s, r_i2c, r_dup, r_pop, r_dup_x1, r_dup_x2, r_dup2, r_dup2L, r_icmp_eq, r_icmp_ne, r_icmp_lt, r_icmp_ge, r_icmp_gt, r_icmp_le, r_if_eq, r_if_ne, r_if_lt, r_if_ge, r_if_gt, r_if_le, r_acmp_eq, r_acmp_ne, r_ifnull, r_ifnonnull, r_goto, r_nop, r_tsw, r_lsw, r_getfield, r_getfinal, r_putfield, r_getstaticL, r_getstaticR, r_iaload, r_baload, r_saload, r_laload, r_aaload, r_aaloadM, r_iastore, r_bastore, r_zastore, r_sastore, r_lastore, r_aastore, r_alen, r_new, r_newarray, r_anewarray, r_invV, r_invI, r_objI, r_invS, r_acp, r_ireturn, r_zreturn, r_lreturn, r_return, r_areturn, r_athrow, ↓e_pI, ↓e_pL, ↓e_pR, ↓e_lg0, ↓e_lg1, ↓e_tk0, ↓e_tkI0, ↓e_tkI1, ↓e_tkI2, ↓e_tkI3, ↓e_tkI4, ↓e_tkL, ↓e_tkR0_0, ↓e_tkR0_1, ↓e_tkR1_0, ↓e_tkR1_1, ↓e_tkR2_0, ↓e_tkR2_1, ↓e_tkR3_0, ↓e_tkR3_1, ↓e_tkR4_0, ↓e_tkR4_1, ↓e_tkR5_0, ↓e_tkR5_1, ↓e_tkR6_0, ↓e_tkR6_1, ↓e_tkR7_0, ↓e_tkR7_1, ↓e_tkR8_0, ↓e_tkR8_1, ↓e_tkR9_0, ↓e_tkR9_1, ↓e_tkR10_0, ↓e_tkR10_1, ↓e_tkR11_0, ↓e_tkR11_1, ↓e_tkR12_0, ↓e_tkR12_1, ↓e_tkR13_0, ↓e_tkR13_1, ↓e_tkR14_0, ↓e_tkR14_1, ↓e_tkR15_0, ↓e_tkR15_1, ↓e_tkR16_0, ↓e_tkR16_1, ↓e_tkR17_0, ↓e_tkR17_1, ↓e_tkR39_0, ↓e_tkR39_1, ↓e_tkR40_0, ↓e_tkR40_1, ↓e_tkR41_0, ↓e_tkR41_1, ↓e_tkR42_0, ↓e_tkR42_1, ↓e_tkR43_0, ↓e_tkR43_1, ↓e_tkR44_0, ↓e_tkR44_1, ↓e_tkR45_0, ↓e_tkR45_1, ↓e_tkR46_0, ↓e_tkR46_1, ↓e_tkR47_0, ↓e_tkR47_1, ↓e_tkR48_0, ↓e_tkR48_1, ↓e_pv0, ↓e_pv1, ↓e_pv2, ↓e_pv3, ↓e_pv5, ↓e_pvR, ↓e_tsw0, ↓e_tsw1, ↓e_lsw0, ↓e_lsw1, e_kq100, e_kq0, e_kq3, e_kq5, e_kqR0, e_kqR1, e_kqR2, e_kqR3, e_kqR4, e_kqR5, e_kqR6, e_kqR7, e_kqR8, e_kqR9, e_kqR10, e_kqR11, e_kqR12, e_kqR13, e_kqR14, e_kqR15, e_kqR16, e_kqR17, e_kqR39, e_kqR40, e_kqR41, e_kqR42, e_kqR43, e_kqR44, e_kqR45, e_kqR46, e_kqR47, e_kqR48, e_st0I, e_st0R, e_st0L, e_st1N, e_st1I, e_st1L, e_st1R, e_st2, e_wd0, e_wdI, e_wdL, e_wdR, e_c1I, e_c1R, e_gv0, e_gv1, e_gv2, e_gv3, e_gv4, e_gv5, e_gvR0, e_gvR1, e_gvR2, e_gvR3, e_gvR4, e_gvR5, e_gvR6, e_gvR7, e_gvR8, e_gvR9, e_gvR10, e_gvR11, e_gvR12, e_gvR13, e_gvR14, e_gvR15, e_gvR16, e_gvR17, e_gvR39, e_gvR40, e_gvR41, e_gvR42, e_gvR43, e_gvR44, e_gvR45, e_gvR46, e_gvR47, e_gvR48, e_kX0, e_kX1, e_kVv, e_kVx, e_kIv, e_kIx, e_kLv, e_kLx, e_kRv, e_kRx, e_thr, e_lk1, e_ic0, e_ic1, e_jm, st_ap, clr_ap, e_lceq, e_lclt, e_lcgt, nn, ↓reduceIte, Nat.reduceDiv, Nat.reduceMod, Nat.reduceMul, Nat.reduceAdd, Nat.reduceEqDiff, Nat.reduceLeDiff, Int.reduceNatCast, Int.cast_ofNat_Int, Int.reduceSub, Int.reduceMul, Int.reduceNeg, Int.reduceAdd, Int.reduceLE, Int.reduceLT, Int.reduceEq, Int.reduceNe, true_and, and_true, true_or, and_self, ne_eq, not_false_eq_true, Bool.false_eq_true, reduceCtorEq, rd_l1, rd_l2, rd_l3, rd_l4, rd_l5, rd_l6, rd_l7, rd_l8, rd_l9, SB, rd_ge, i2b_2, false_and, and_false, not_true_eq_false, l390_0, l390_9, l390_58, s390_0, s390_9, s390_58, zM_18, zM_19, zM_20, zM_21, zM_22, zM_23, zM_24, zM_25, zM_26, zM_27, zM_28, zM_29, zM_30, zM_31, zM_32, zM_33, zM_34, zM_35, zM_36, zM_37, zM_38, zM_39, zM_40, zM_41, zM_42, zM_43, zM_44, zM_45, zM_46, zM_47, zM_48, zM_49, zM_50, zM_51, zM_52, zM_53, zM_54, zM_55, zM_56, zM_57, zM_58, zM_59, zM_60, zM_61, zM_62, zM_63, zM_64, zM_65, zM_66, zM_67, zM_68, zM_69, zM_70, zM_71, zM_72, zM_73, zM_74, zM_75, zM_76, zM_77, zM_78, zM_79, zM_80, zM_81, zM_82, zM_83, zM_84, zM_85, zM_86, zM_87, zM_88, zM_89, zM_90, zM_91, zM_92, zM_93, zM_94, zM_95, zM_96, zM_97, zM_98, zM_99, zM_100, zM_101, zM_102, zM_103, zM_104, zM_105, zM_106, zM_107, zM_108, zM_109, zM_110, zM_111, zM_112, zM_113, zM_114, zM_115, zM_116, zM_117, zM_118, zM_119]
    rw [e53, e52, i2b_id bb.1 bb.2]
    repeat (first | exact hQ | refine And.intro (by first | omega | (constructor <;> omega)) ?_ | rw [if_pos (by first | omega | (constructor <;> omega))] | rw [if_neg (by first | omega | (constructor <;> omega))])
    exact z
  · intro w2 D2 G2
    refine ⟨w2, D2, G2, fun Q hQ => ?_⟩
    refine blk (md := true) [9] 99 GM FM rfl k390 ?_
    simp -implicitDefEqProofs only [r_iconst, r_bipush, r_sipush, r_ldc, r_ldc_w, r_lconst, r_ldc2_w, r_aconst_null, r_iload, r_iload_n, r_lload, r_lload_n, r_aload, r_aload_n, r_istore, r_istore_n, r_lstore, r_lstore_n, r_astore, r_astore_n, r_iinc, r_iadd, r_iaddW, r_isub, r_isubW, r_imul, r_imulW, r_ladd, r_laddW, r_lsub, r_lsubW, r_lmul, r_lmulW, r_iand, r_ior, r_ishl, r_ishr, r_iushr, r_land, r_lor, r_lshl, r_lshr, r_lushr, r_idiv, r_irem, r_ldiv, r_lrem, r_lcmp, r_ineg, r_i2l, r_l2i, r_i2b, r_i2s, r_i2c, r_dup, r_pop, r_dup_x1, r_dup_x2, r_dup2, r_dup2L, r_icmp_eq, r_icmp_ne, r_icmp_lt, r_icmp_ge, r_icmp_gt, r_icmp_le, r_if_eq, r_if_ne, r_if_lt, r_if_ge, r_if_gt, r_if_le, r_acmp_eq, r_acmp_ne, r_ifnull, r_ifnonnull, r_goto, r_nop, r_tsw, r_lsw, r_getfield, r_getfinal, r_putfield, r_getstaticL, r_getstaticR, r_iaload, r_baload, r_saload, r_laload, r_aaload, r_aaloadM, r_iastore, r_bastore, r_zastore, r_sastore, r_lastore, r_aastore, r_alen, r_new, r_newarray, r_anewarray, r_invV, r_invI, r_objI, r_invS, r_acp, r_ireturn, r_zreturn, r_lreturn, r_return, r_areturn, r_athrow, ↓e_pI, ↓e_pL, ↓e_pR, ↓e_lg0, ↓e_lg1, ↓e_tk0, ↓e_tkI0, ↓e_tkI1, ↓e_tkI2, ↓e_tkI3, ↓e_tkI4, ↓e_tkL, ↓e_tkR0_0, ↓e_tkR0_1, ↓e_tkR1_0, ↓e_tkR1_1, ↓e_tkR2_0, ↓e_tkR2_1, ↓e_tkR3_0, ↓e_tkR3_1, ↓e_tkR4_0, ↓e_tkR4_1, ↓e_tkR5_0, ↓e_tkR5_1, ↓e_tkR6_0, ↓e_tkR6_1, ↓e_tkR7_0, ↓e_tkR7_1, ↓e_tkR8_0, ↓e_tkR8_1, ↓e_tkR9_0, ↓e_tkR9_1, ↓e_tkR10_0, ↓e_tkR10_1, ↓e_tkR11_0, ↓e_tkR11_1, ↓e_tkR12_0, ↓e_tkR12_1, ↓e_tkR13_0, ↓e_tkR13_1, ↓e_tkR14_0, ↓e_tkR14_1, ↓e_tkR15_0, ↓e_tkR15_1, ↓e_tkR16_0, ↓e_tkR16_1, ↓e_tkR17_0, ↓e_tkR17_1, ↓e_tkR39_0, ↓e_tkR39_1, ↓e_tkR40_0, ↓e_tkR40_1, ↓e_tkR41_0, ↓e_tkR41_1, ↓e_tkR42_0, ↓e_tkR42_1, ↓e_tkR43_0, ↓e_tkR43_1, ↓e_tkR44_0, ↓e_tkR44_1, ↓e_tkR45_0, ↓e_tkR45_1, ↓e_tkR46_0, ↓e_tkR46_1, ↓e_tkR47_0, ↓e_tkR47_1, ↓e_tkR48_0, ↓e_tkR48_1, ↓e_pv0, ↓e_pv1, ↓e_pv2, ↓e_pv3, ↓e_pv5, ↓e_pvR, ↓e_tsw0, ↓e_tsw1, ↓e_lsw0, ↓e_lsw1, e_kq100, e_kq0, e_kq3, e_kq5, e_kqR0, e_kqR1, e_kqR2, e_kqR3, e_kqR4, e_kqR5, e_kqR6, e_kqR7, e_kqR8, e_kqR9, e_kqR10, e_kqR11, e_kqR12, e_kqR13, e_kqR14, e_kqR15, e_kqR16, e_kqR17, e_kqR39, e_kqR40, e_kqR41, e_kqR42, e_kqR43, e_kqR44, e_kqR45, e_kqR46, e_kqR47, e_kqR48, e_st0I, e_st0R, e_st0L, e_st1N, e_st1I, e_st1L, e_st1R, e_st2, e_wd0, e_wdI, e_wdL, e_wdR, e_c1I, e_c1R, e_gv0, e_gv1, e_gv2, e_gv3, e_gv4, e_gv5, e_gvR0, e_gvR1, e_gvR2, e_gvR3, e_gvR4, e_gvR5, e_gvR6, e_gvR7, e_gvR8, e_gvR9, e_gvR10, e_gvR11, e_gvR12, e_gvR13, e_gvR14, e_gvR15, e_gvR16, e_gvR17, e_gvR39, e_gvR40, e_gvR41, e_gvR42, e_gvR43, e_gvR44, e_gvR45, e_gvR46, e_gvR47, e_gvR48, e_kX0, e_kX1, e_kVv, e_kVx, e_kIv, e_kIx, e_kLv, e_kLx, e_kRv, e_kRx, e_thr, e_lk1, e_ic0, e_ic1, e_jm, st_ap, clr_ap, e_lceq, e_lclt, e_lcgt, nn, ↓reduceIte, Nat.reduceDiv, Nat.reduceMod, Nat.reduceMul, Nat.reduceAdd, Nat.reduceEqDiff, Nat.reduceLeDiff, Int.reduceNatCast, Int.cast_ofNat_Int, Int.reduceSub, Int.reduceMul, Int.reduceNeg, Int.reduceAdd, Int.reduceLE, Int.reduceLT, Int.reduceEq, Int.reduceNe, true_and, and_true, true_or, and_self, ne_eq, not_false_eq_true, Bool.false_eq_true, reduceCtorEq, rd_l1, rd_l2, rd_l3, rd_l4, rd_l5, rd_l6, rd_l7, rd_l8, rd_l9, SB, rd_ge, i2b_2, false_and, and_false, not_true_eq_false, l390_0, l390_9, l390_58, s390_0, s390_9, s390_58, zM_18, zM_19, zM_20, zM_21, zM_22, zM_23, zM_24, zM_25, zM_26, zM_27, zM_28, zM_29, zM_30, zM_31, zM_32, zM_33, zM_34, zM_35, zM_36, zM_37, zM_38, zM_39, zM_40, zM_41, zM_42, zM_43, zM_44, zM_45, zM_46, zM_47, zM_48, zM_49, zM_50, zM_51, zM_52, zM_53, zM_54, zM_55, zM_56, zM_57, zM_58, zM_59, zM_60, zM_61, zM_62, zM_63, zM_64, zM_65, zM_66, zM_67, zM_68, zM_69, zM_70, zM_71, zM_72, zM_73, zM_74, zM_75, zM_76, zM_77, zM_78, zM_79, zM_80, zM_81, zM_82, zM_83, zM_84, zM_85, zM_86, zM_87, zM_88, zM_89, zM_90, zM_91, zM_92, zM_93, zM_94, zM_95, zM_96, zM_97, zM_98, zM_99, zM_100, zM_101, zM_102, zM_103, zM_104, zM_105, zM_106, zM_107, zM_108, zM_109, zM_110, zM_111, zM_112, zM_113, zM_114, zM_115, zM_116, zM_117, zM_118, zM_119]
    repeat (first | exact hQ | refine And.intro (by first | omega | (constructor <;> omega)) ?_ | rw [if_pos (by first | omega | (constructor <;> omega))] | rw [if_neg (by first | omega | (constructor <;> omega))])
end
