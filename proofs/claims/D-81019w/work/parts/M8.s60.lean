set_option maxRecDepth 100000
theorem dirE_c {t s s' l l' z : Int → Int} : ∀ k : Nat, (∀ i : Int, 0 ≤ i → i < k → s i = s' i ∧ l i = l' i) → dirE t s l z k = dirE t s' l' z k := by
  intro k
  induction k with
  | zero => intro _; rfl
  | succ k ih =>
    intro q
    have a := q k (by omega) (by omega)
    rw [dirE, dirE, ih (fun i x y => q i x (by omega)), a.1, a.2]
theorem dirL_c {fl c : Int} {t s s' l l' z : Int → Int} (q : ∀ i : Int, 0 ≤ i → i < c → s i = s' i ∧ l i = l' i) : dirL fl c t s l z = dirL fl c t s' l' z := by
  unfold dirL
  rw [dirE_c c.toNat (fun i a b => q i a (by omega))]
section
variable {A B : Qt → Prop} {Φ : Out → Int → Mem → Out → Int → Mem → Prop} {KL KM : Qt → Qt} {n m : Int} {h w : Mem}
/-- one font is saved into Bytes 19 (60) -/
theorem c_s60 {p c fl : Int} {t k z : Int → Int} (p0 : 0 ≤ p ∧ p < 4) (F : FTH p c t k z h) (efl : h (252 + 6 * p) 1 = fl)
    (fin : ∀ h1 : Mem, s60 h1 (bodE (dirL fl c t (bsh h t k z) (fun i => plc z c i.toNat) z) (fun i => h (29 + 2 * k i)) z c.toNat) (hpl t z c c.toNat) → Fz (fun a _ => a = 18 ∨ a = 19 ∨ a = 20) h h1 → J2 (fun Q => KL Q (.inl none) n h1) B Φ) :
    J2 (fun Q => T gC 60 [vR 1 17, vR 6 (252 + 6 * p)] n h (KL Q)) B Φ := by
  have cr := F.2.1
  refine J_impL (fun Q hq => T_go (md := true) [some (vR 1 17), some (vR 6 (252 + 6 * p)), none, none, none] [23, 111] 99 (by decide) rfl (Nat.le_of_ble_eq_true rfl) GC FC rfl k60 hq) ?_
  simp -implicitDefEqProofs only [r_iconst, r_bipush, r_sipush, r_ldc, r_ldc_w, r_lconst, r_ldc2_w, r_aconst_null, r_iload, r_iload_n, r_lload, r_lload_n, r_aload, r_aload_n, r_istore, r_istore_n, r_lstore, r_lstore_n, r_astore, r_astore_n, r_iinc, r_iadd, r_iaddW, r_isub, r_isubW, r_imul, r_imulW, r_ladd, r_laddW, r_lsub, r_lsubW, r_lmul, r_lmulW, r_iand, r_ior, r_ishl, r_ishr, r_iushr, r_land, r_lor, r_lshl, r_lshr, r_lushr, r_idiv, r_irem, r_ldiv, r_lrem, r_lcmp, r_ineg, r_i2l, r_l2i, r_i2b, r_i2s, r_i2c, r_dup, r_pop, r_dup_x1, r_dup_x2, r_dup2, r_dup2L, r_icmp_eq, r_icmp_ne, r_icmp_lt, r_icmp_ge, r_icmp_gt, r_icmp_le, r_if_eq, r_if_ne, r_if_lt, r_if_ge, r_if_gt, r_if_le, r_acmp_eq, r_acmp_ne, r_ifnull, r_ifnonnull, r_goto, r_nop, r_tsw, r_lsw, r_getfield, r_getfinal, r_putfield, r_getstaticL, r_getstaticR, r_iaload, r_baload, r_saload, r_laload, r_aaload, r_aaloadM, r_iastore, r_bastore, r_zastore, r_sastore, r_lastore, r_aastore, r_alen, r_new, r_newarray, r_anewarray, r_invV, r_invI, r_objI, r_invS, r_acp, r_ireturn, r_zreturn, r_lreturn, r_return, r_areturn, r_athrow, ↓e_pI, ↓e_pL, ↓e_pR, ↓e_lg0, ↓e_lg1, ↓e_tk0, ↓e_tkI0, ↓e_tkI1, ↓e_tkI2, ↓e_tkI3, ↓e_tkI4, ↓e_tkL, ↓e_tkR0_0, ↓e_tkR0_1, ↓e_tkR1_0, ↓e_tkR1_1, ↓e_tkR2_0, ↓e_tkR2_1, ↓e_tkR3_0, ↓e_tkR3_1, ↓e_tkR4_0, ↓e_tkR4_1, ↓e_tkR5_0, ↓e_tkR5_1, ↓e_tkR6_0, ↓e_tkR6_1, ↓e_tkR7_0, ↓e_tkR7_1, ↓e_tkR8_0, ↓e_tkR8_1, ↓e_tkR9_0, ↓e_tkR9_1, ↓e_tkR10_0, ↓e_tkR10_1, ↓e_tkR11_0, ↓e_tkR11_1, ↓e_tkR12_0, ↓e_tkR12_1, ↓e_tkR13_0, ↓e_tkR13_1, ↓e_tkR14_0, ↓e_tkR14_1, ↓e_tkR15_0, ↓e_tkR15_1, ↓e_tkR16_0, ↓e_tkR16_1, ↓e_tkR17_0, ↓e_tkR17_1, ↓e_tkR39_0, ↓e_tkR39_1, ↓e_tkR40_0, ↓e_tkR40_1, ↓e_tkR41_0, ↓e_tkR41_1, ↓e_tkR42_0, ↓e_tkR42_1, ↓e_tkR43_0, ↓e_tkR43_1, ↓e_tkR44_0, ↓e_tkR44_1, ↓e_tkR45_0, ↓e_tkR45_1, ↓e_tkR46_0, ↓e_tkR46_1, ↓e_tkR47_0, ↓e_tkR47_1, ↓e_tkR48_0, ↓e_tkR48_1, ↓e_pv0, ↓e_pv1, ↓e_pv2, ↓e_pv3, ↓e_pv5, ↓e_pvR, ↓e_tsw0, ↓e_tsw1, ↓e_lsw0, ↓e_lsw1, e_kq100, e_kq0, e_kq3, e_kq5, e_kqR0, e_kqR1, e_kqR2, e_kqR3, e_kqR4, e_kqR5, e_kqR6, e_kqR7, e_kqR8, e_kqR9, e_kqR10, e_kqR11, e_kqR12, e_kqR13, e_kqR14, e_kqR15, e_kqR16, e_kqR17, e_kqR39, e_kqR40, e_kqR41, e_kqR42, e_kqR43, e_kqR44, e_kqR45, e_kqR46, e_kqR47, e_kqR48, e_st0I, e_st0R, e_st0L, e_st1N, e_st1I, e_st1L, e_st1R, e_st2, e_wd0, e_wdI, e_wdL, e_wdR, e_c1I, e_c1R, e_gv0, e_gv1, e_gv2, e_gv3, e_gv4, e_gv5, e_gvR0, e_gvR1, e_gvR2, e_gvR3, e_gvR4, e_gvR5, e_gvR6, e_gvR7, e_gvR8, e_gvR9, e_gvR10, e_gvR11, e_gvR12, e_gvR13, e_gvR14, e_gvR15, e_gvR16, e_gvR17, e_gvR39, e_gvR40, e_gvR41, e_gvR42, e_gvR43, e_gvR44, e_gvR45, e_gvR46, e_gvR47, e_gvR48, e_kX0, e_kX1, e_kVv, e_kVx, e_kIv, e_kIx, e_kLv, e_kLx, e_kRv, e_kRx, e_thr, e_lk1, e_ic0, e_ic1, e_jm, st_ap, clr_ap, e_lceq, e_lclt, e_lcgt, nn, ↓reduceIte, Nat.reduceDiv, Nat.reduceMod, Nat.reduceMul, Nat.reduceAdd, Nat.reduceEqDiff, Nat.reduceLeDiff, Int.reduceNatCast, Int.cast_ofNat_Int, Int.reduceSub, Int.reduceMul, Int.reduceNeg, Int.reduceAdd, Int.reduceLE, Int.reduceLT, Int.reduceEq, Int.reduceNe, true_and, and_true, true_or, and_self, ne_eq, not_false_eq_true, Bool.false_eq_true, reduceCtorEq, rd_l1, rd_l2, rd_l3, rd_l4, rd_l5, rd_l6, rd_l7, rd_l8, rd_l9, SB, rd_ge, i2b_2, false_and, and_false, not_true_eq_false, l60_0, l60_23, l60_74, l60_96, l60_111, l60_158, l60_172, l60_173, s60_0, s60_23, s60_74, s60_96, s60_111, s60_158, s60_172, s60_173, zC_18, zC_20, zC_21, zC_22, zC_23, zC_25, zC_26, zC_253, zC_254, zC_256, zC_257, zC_259, zC_260, zC_262, zC_263, zC_265, zC_266, zC_268, zC_269, zC_271, zC_272, zC_274, zC_275, zC_278, zC_279, zC_280, zC_281, zC_282, zC_284, zC_285, zC_287, zC_288, zC_290, zC_291, zC_293, zC_294, zC_296, zC_297, zC_299, zC_300, zC_302, zC_303, zC_304, zC_305, zC_306, zC_307, zC_308, zC_309, zC_310, zC_311, zC_312, zC_315, zC_316, zC_317, zC_319, zC_320, zC_321, zC_323, zC_324, zC_325, zC_327, zC_328, zC_329, zC_331, zC_332, zC_333, zC_335, zC_336, zC_337, zC_339, zC_340, zC_341, zC_343, zC_344, zC_345, zC_347, zC_348, zC_349, zC_350, zC_351, zC_352, zC_353, zC_354, zC_355, zC_356, zC_357, zC_358, zC_359, zC_361, zC_362, zC_363, zC_364, zC_367, zC_368, zC_369, zC_370, zC_371, zC_372, zC_373, zC_374, zC_375, zC_376, zC_378, zC_380, zC_381, zC_383, zC_384, zC_386, zC_387, zC_389, zC_390, zC_391, zC_392, zC_393, zC_394, zC_395, zC_396, zC_397, zC_398, zC_400, zC_402, zC_403, zC_405, zC_407, zC_409, zC_411, zC_413, zC_415, zC_417, zC_420, zC_421, zC_422, zC_423, zC_424, zC_425, zC_427, zC_429, zC_431, zC_433, zC_436, zC_437, zC_438, zC_439, zC_440, zC_441, zC_442, zC_443, zC_444, zC_445, zC_447, zC_448, zC_450, zC_451, zC_453, zC_454, zC_455, zC_456, zC_457, zC_458, zC_460, zC_461, zC_462, zC_463, zC_464, zC_465, zC_466, zC_467, zC_468, zC_469, zC_471, zC_473, zC_474, zC_476, zC_477, zC_478, zC_479, zC_480, zC_481, zC_482, zC_483, zC_484, zC_485, zC_487, zC_489, zC_490, zC_491, zC_493, zC_495, zC_497, zC_499]
  obtain ⟨ev1, O1, G1⟩ := c_clearO (n := n) (h := h)
  refine J_LV ev1 ?_
  revert O1 G1
  clear ev1
  generalize st (st h 19 1 0) 19 2 0 = h1
  intro O1 G1
  have F1 : FTH p c t k z h1 := FTH_t p0 F (fun a j x y => G1 a j (by unfold boF; omega))
  rw [F1.1]
  repeat (first | refine J_andL (by first | omega | (constructor <;> omega)) ?_ | refine J_andR (by first | omega | (constructor <;> omega)) ?_ | refine J_posL (by first | omega | (constructor <;> omega)) ?_ | refine J_negL (by first | omega | (constructor <;> omega)) ?_ | refine J_posR (by first | omega | (constructor <;> omega)) ?_ | refine J_negR (by first | omega | (constructor <;> omega)) ?_)
  refine c_plcL p0 F1 ?_
  intro h2 P2 G2
  have F2 : FTH p c t k z h2 := FTH_t p0 F1 (fun a j x y => G2 a j (by show ¬ (_ = _); omega))
  have O2 : BO h2 [] := by
    rcases O1 with ⟨a, b, c, d⟩ | ⟨a, _⟩
    · exact Or.inl ⟨a, by rw [G2 _ _ (by show ¬ (_ = _); omega)]; exact b, by rw [G2 _ _ (by show ¬ (_ = _); omega)]; exact c, fun i hi => by simp at hi⟩
    · simp at a
  have fh2 : ∀ a j, a ≠ 18 → a ≠ 19 → a ≠ 20 → h2 a j = h a j := fun a j x y z => by rw [G2 a j x, G1 a j (by unfold boF; omega)]
  refine c_dir (fl := fl) (l := fun i => plc z c i.toNat) p0 F2 (by rw [fh2 _ _ (by omega) (by omega) (by omega)]; exact efl) P2 O2 ?_
  intro h3 O3 G3
  have F3 : FTH p c t k z h3 := FTH_t p0 F2 (fun a j x y => G3 a j (by unfold boF; omega))
  have fh3 : ∀ a j, a ≠ 18 → a ≠ 19 → a ≠ 20 → h3 a j = h a j := fun a j x y z => by rw [G3 a j (by unfold boF; omega)]; exact fh2 a j x y z
  have kk : ∀ i, 0 ≤ i → i < c → 0 ≤ k i ∧ k i < 112 := fun i a b => (F.2.2 i a b).2.2.1
  have zz : ∀ i, 0 ≤ i → i < c → 0 ≤ z i ∧ z i ≤ 12000 := fun i a b => (F.2.2 i a b).2.2.2.2
  have dE : dirL fl c t (bsh h2 t k z) (fun i => plc z c i.toNat) z = dirL fl c t (bsh h t k z) (fun i => plc z c i.toNat) z := dirL_c (fun i a b => ⟨by
    unfold bsh
    have e : (fun j => h2 (29 + 2 * k i) (0 + j)) = fun j => h (29 + 2 * k i) (0 + j) := funext fun j => fh2 _ _ (by have := kk i a b; omega) (by have := kk i a b; omega) (by have := kk i a b; omega)
    rw [e], rfl⟩)
  rw [List.nil_append, dE] at O3
  try simp only [e_kVv]
  refine c_bod p0 F3 O3 ?_
  intro h4 O4 G4
  have bE : bodE (dirL fl c t (bsh h t k z) (fun i => plc z c i.toNat) z) (fun i => h3 (29 + 2 * k i)) z c.toNat = bodE (dirL fl c t (bsh h t k z) (fun i => plc z c i.toNat) z) (fun i => h (29 + 2 * k i)) z c.toNat := bodE_c _ (fun i a b j _ _ => fh3 _ _ (by have := kk i a (by omega); omega) (by have := kk i a (by omega); omega) (by have := kk i a (by omega); omega))
  rw [bE] at O4
  have len := bodE_p (g := fun i => h (29 + 2 * k i)) (z := z) (c := c) (dirL_l (fl := fl) (c := c) (t := t) (s := bsh h t k z) (l := fun i => plc z c i.toNat) (z := z) cr.1) c.toNat (fun i a b => (zz i a (by omega)).1)
  have hr := hpl_r (t := t) (z := z) (c := c) cr.1 c.toNat (fun i a b => (zz i a (by omega)).1)
  have G04 : Fz (fun a _ => a = 18 ∨ a = 19 ∨ a = 20) h h4 := fun a j g => by
    have g' : ¬ (a = 18 ∨ a = 19 ∨ a = 20) := g
    rw [G4 a j (by unfold boF; omega)]; exact fh3 a j (by omega) (by omega) (by omega)
  revert fin O4 len
  generalize bodE (dirL fl c t (bsh h t k z) (fun i => plc z c i.toNat) z) (fun i => h (29 + 2 * k i)) z c.toNat = LL
  intro fin O4 len
  generalize hpl t z c c.toNat = hp at fin hr ⊢
  rcases O4 with ⟨o1, o2, o3⟩ | ⟨o1, o2, o3, o4⟩
  · by_cases q : hp < 0
    · refine J_posL q ?_
      refine fin h4 (Or.inl ⟨o1, o2, o3.1, fun i i0 i1 => ?_⟩) G04
      unfold outL
      rw [if_pos q]
      have := o3.2 i.toNat (by omega)
      rw [show ((i.toNat : Nat) : Int) = i by omega] at this
      exact this
    · refine J_negL q (J_posL o2 ?_)
      have zc := zc19
      rw [o3.1]
      refine J_LI (c_sum (n := n) (h := h4) (o := 19) (f := 0) (c := (LL.length : Int)) (hole := hp) (by omega) (by omega) (by omega) (by omega) (by omega) (by omega)) ?_
      have es : sm (fun i => h4 (19 + 1) (0 + i)) hp (LL.length : Int).toNat = sm (fun i => LL.getD i.toNat 0) hp LL.length := by
        rw [show ((LL.length : Int)).toNat = LL.length by omega]
        refine sm_cg (fun i i0 i1 => ?_)
        have := o3.2 i.toNat (by omega)
        rw [show ((i.toNat : Nat) : Int) = i by omega] at this
        show h4 (19 + 1) (0 + i) % 256 = LL.getD i.toNat 0 % 256
        rw [show (0 : Int) + i = i by omega, this]
      rw [es]
      obtain ⟨h5, ev5, z1, z2, G5⟩ := c_set4O (n := n) (x := hp) (v := wr (-1313820742 - wr (sm (fun i => LL.getD i.toNat 0) hp LL.length))) o3 (by omega)
      refine J_LV ev5 ?_
      refine fin h5 (Or.inl ⟨o1, by rw [G5 _ _ (by show ¬ (_ = _); omega)]; exact o2, z1, fun i i0 i1 => ?_⟩) (Fz_tr G04 (Fz_mo G5 (fun a j g => Or.inr (Or.inr g))))
      unfold outL
      rw [if_neg q]
      exact z2 i i0 i1
  · by_cases q : hp < 0
    · refine J_posL q ?_
      exact fin h4 (Or.inr ⟨o1, o2⟩) G04
    · refine J_negL q (J_negL (by omega) ?_)
      exact fin h4 (Or.inr ⟨o1, o2⟩) G04
end
