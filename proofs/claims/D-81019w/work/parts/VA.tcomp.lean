set_option maxRecDepth 100000
section
variable {A B : Qt → Prop} {Φ : Out → Int → Mem → Out → Int → Mem → Prop} {KL KM : Qt → Qt} {n m : Int} {h w : Mem} {g gn c bt x2 x3 : Int}
/-- the model's code, alone -/
theorem m_465any (S : TSp h w) : ∃ (v : Int) (w1 : Mem), Ev gM 465 [vR 33 17] m w (.inl (some (vI v))) m w1 ∧ (v = 0 ∨ v = 1) ∧ Fz tcM w w1 := by
  have S' : TSp (st (st h 401 1 0) 382 5 1) w := TSp_t S (fun a j q => by rw [st_na (by omega), st_na (by omega)]) (fun _ _ _ => rfl)
  have j := p_tcode (n := (0 : Int)) (m := m) (h := st (st h 401 1 0) 382 5 1) (w := w) (KL := fun Q => Q) (KM := fun Q => Q) (Φ := fun _ _ _ o' m' w1 => ∃ v : Int, o' = .inl (some (vI v)) ∧ (v = 0 ∨ v = 1) ∧ m' = m ∧ Fz tcM w w1) S' (st_eq _ _ _ _) (by rw [st_na (by omega), st_eq]) (fun h1 w1 _ W => J_end ⟨0, rfl, Or.inl rfl, rfl, W⟩) (fun h1 w1 _ _ _ _ W => J_end ⟨1, rfl, Or.inr rfl, rfl, W⟩)
  obtain ⟨o', m', w1, e, -, -, -, v, rfl, v0, rfl, W⟩ := J_rgt j
  exact ⟨v, w1, e, v0, W⟩
def tkC (a j : Int) : Prop := pr8C a j ∨ a = 384 ∨ (a = 388 ∧ (16 ≤ j ∧ j ≤ 18))
/-- a glyph of parts (187, 466) -/
theorem p_tcomp (S : TSp h w) (eg : w 17 70 = gn ∧ 1 ≤ gn ∧ gn ≤ 64) (e3 : h 388 3 = 0 ∧ w 17 76 = 0) (e0 : h 388 0 = -1) (e75 : w 17 75 = 0) (z1 : h 401 1 = 0) (z7 : w 17 77 = 0)
    (bad : ∀ h1 w1 : Mem, Fz tkC h h1 → Fz pr8M w w1 → J2 (fun Q => KL Q (.inl (some (vI 0))) n h1) (fun Q => KM Q (.inl (some (vI 0))) m w1) Φ)
    (ok : ∀ (h1 w1 : Mem) (m2 m3 m4 m5 m6 m7 : Option V), TSp h1 w1 → GLX h1 w1 → w1 17 77 = 0 → Fz tkC h h1 → Fz pr8M w w1 → J2 (fun Q => KL Q (.inl (some (vI 1))) n h1) (fun Q => T_at gM 466 2 [some (vR 33 17), some (vI 0), m2, m3, m4, m5, m6, m7] [] m w1 (KM Q)) Φ) :
    J2 (fun Q => T gC 187 [vR 25 382, vI gn] n h (KL Q)) (fun Q => T gM 466 [vR 33 17] m w (KM Q)) Φ := by
  have s4 := S.2 4 (by omega) (by omega)
  have s4' := S.1.2 4 (by omega) (by omega)
  have h4 : h 383 4 = 412 := S.1.1 4 (by omega) (by omega)
  rw [show (404 + 2 * 4 : Int) = 412 from rfl] at s4 s4'
  rw [show (412 + 1 : Int) = 413 from rfl] at s4
  refine J_impL (fun Q hq => T_go (md := true) [some (vR 25 382), some (vI gn), none, none] [] 99 (by decide) rfl (Nat.le_of_ble_eq_true rfl) GC FC rfl k187 hq) ?_
  simp -implicitDefEqProofs only [r_iconst, r_bipush, r_sipush, r_ldc, r_ldc_w, r_lconst, r_ldc2_w, r_aconst_null, r_iload, r_iload_n, r_lload, r_lload_n, r_aload, r_aload_n, r_istore, r_istore_n, r_lstore, r_lstore_n, r_astore, r_astore_n, r_iinc, r_iadd, r_iaddW, r_isub, r_isubW, r_imul, r_imulW, r_ladd, r_laddW, r_lsub, r_lsubW, r_lmul, r_lmulW, r_iand, r_ior, r_ishl, r_ishr, r_iushr, r_land, r_lor, r_lshl, r_lshr, r_lushr, r_idiv, r_irem, r_ldiv, r_lrem, r_lcmp, r_ineg, r_i2l, r_l2i, r_i2b, r_i2s, r_i2c, r_dup, r_pop, r_dup_x1, r_dup_x2, r_dup2, r_dup2L, r_icmp_eq, r_icmp_ne, r_icmp_lt, r_icmp_ge, r_icmp_gt, r_icmp_le, r_if_eq, r_if_ne, r_if_lt, r_if_ge, r_if_gt, r_if_le, r_acmp_eq, r_acmp_ne, r_ifnull, r_ifnonnull, r_goto, r_nop, r_tsw, r_lsw, r_getfield, r_getfinal, r_putfield, r_getstaticL, r_getstaticR, r_iaload, r_baload, r_saload, r_laload, r_aaload, r_aaloadM, r_iastore, r_bastore, r_zastore, r_sastore, r_lastore, r_aastore, r_alen, r_new, r_newarray, r_anewarray, r_invV, r_invI, r_objI, r_invS, r_acp, r_ireturn, r_zreturn, r_lreturn, r_return, r_areturn, r_athrow, ↓e_pI, ↓e_pL, ↓e_pR, ↓e_lg0, ↓e_lg1, ↓e_tk0, ↓e_tkI0, ↓e_tkI1, ↓e_tkI2, ↓e_tkI3, ↓e_tkI4, ↓e_tkL, ↓e_tkR0_0, ↓e_tkR0_1, ↓e_tkR1_0, ↓e_tkR1_1, ↓e_tkR2_0, ↓e_tkR2_1, ↓e_tkR3_0, ↓e_tkR3_1, ↓e_tkR4_0, ↓e_tkR4_1, ↓e_tkR5_0, ↓e_tkR5_1, ↓e_tkR6_0, ↓e_tkR6_1, ↓e_tkR7_0, ↓e_tkR7_1, ↓e_tkR8_0, ↓e_tkR8_1, ↓e_tkR9_0, ↓e_tkR9_1, ↓e_tkR10_0, ↓e_tkR10_1, ↓e_tkR11_0, ↓e_tkR11_1, ↓e_tkR12_0, ↓e_tkR12_1, ↓e_tkR13_0, ↓e_tkR13_1, ↓e_tkR14_0, ↓e_tkR14_1, ↓e_tkR15_0, ↓e_tkR15_1, ↓e_tkR16_0, ↓e_tkR16_1, ↓e_tkR17_0, ↓e_tkR17_1, ↓e_tkR39_0, ↓e_tkR39_1, ↓e_tkR40_0, ↓e_tkR40_1, ↓e_tkR41_0, ↓e_tkR41_1, ↓e_tkR42_0, ↓e_tkR42_1, ↓e_tkR43_0, ↓e_tkR43_1, ↓e_tkR44_0, ↓e_tkR44_1, ↓e_tkR45_0, ↓e_tkR45_1, ↓e_tkR46_0, ↓e_tkR46_1, ↓e_tkR47_0, ↓e_tkR47_1, ↓e_tkR48_0, ↓e_tkR48_1, ↓e_pv0, ↓e_pv1, ↓e_pv2, ↓e_pv3, ↓e_pv5, ↓e_pvR, ↓e_tsw0, ↓e_tsw1, ↓e_lsw0, ↓e_lsw1, e_kq100, e_kq0, e_kq3, e_kq5, e_kqR0, e_kqR1, e_kqR2, e_kqR3, e_kqR4, e_kqR5, e_kqR6, e_kqR7, e_kqR8, e_kqR9, e_kqR10, e_kqR11, e_kqR12, e_kqR13, e_kqR14, e_kqR15, e_kqR16, e_kqR17, e_kqR39, e_kqR40, e_kqR41, e_kqR42, e_kqR43, e_kqR44, e_kqR45, e_kqR46, e_kqR47, e_kqR48, e_st0I, e_st0R, e_st0L, e_st1N, e_st1I, e_st1L, e_st1R, e_st2, e_wd0, e_wdI, e_wdL, e_wdR, e_c1I, e_c1R, e_gv0, e_gv1, e_gv2, e_gv3, e_gv4, e_gv5, e_gvR0, e_gvR1, e_gvR2, e_gvR3, e_gvR4, e_gvR5, e_gvR6, e_gvR7, e_gvR8, e_gvR9, e_gvR10, e_gvR11, e_gvR12, e_gvR13, e_gvR14, e_gvR15, e_gvR16, e_gvR17, e_gvR39, e_gvR40, e_gvR41, e_gvR42, e_gvR43, e_gvR44, e_gvR45, e_gvR46, e_gvR47, e_gvR48, e_kX0, e_kX1, e_kVv, e_kVx, e_kIv, e_kIx, e_kLv, e_kLx, e_kRv, e_kRx, e_thr, e_lk1, e_ic0, e_ic1, e_jm, st_ap, clr_ap, e_lceq, e_lclt, e_lcgt, nn, ↓reduceIte, Nat.reduceDiv, Nat.reduceMod, Nat.reduceMul, Nat.reduceAdd, Nat.reduceEqDiff, Nat.reduceLeDiff, Int.reduceNatCast, Int.cast_ofNat_Int, Int.reduceSub, Int.reduceMul, Int.reduceNeg, Int.reduceAdd, Int.reduceLE, Int.reduceLT, Int.reduceEq, Int.reduceNe, true_and, and_true, true_or, and_self, ne_eq, not_false_eq_true, Bool.false_eq_true, reduceCtorEq, rd_l1, rd_l2, rd_l3, rd_l4, rd_l5, rd_l6, rd_l7, rd_l8, rd_l9, SB, rd_ge, i2b_2, false_and, and_false, not_true_eq_false, l187_0, s187_0, zC_18, zC_20, zC_21, zC_22, zC_23, zC_25, zC_26, zC_253, zC_254, zC_256, zC_257, zC_259, zC_260, zC_262, zC_263, zC_265, zC_266, zC_268, zC_269, zC_271, zC_272, zC_274, zC_275, zC_278, zC_279, zC_280, zC_281, zC_282, zC_284, zC_285, zC_287, zC_288, zC_290, zC_291, zC_293, zC_294, zC_296, zC_297, zC_299, zC_300, zC_302, zC_303, zC_304, zC_305, zC_306, zC_307, zC_308, zC_309, zC_310, zC_311, zC_312, zC_315, zC_316, zC_317, zC_319, zC_320, zC_321, zC_323, zC_324, zC_325, zC_327, zC_328, zC_329, zC_331, zC_332, zC_333, zC_335, zC_336, zC_337, zC_339, zC_340, zC_341, zC_343, zC_344, zC_345, zC_347, zC_348, zC_349, zC_350, zC_351, zC_352, zC_353, zC_354, zC_355, zC_356, zC_357, zC_358, zC_359, zC_361, zC_362, zC_363, zC_364, zC_367, zC_368, zC_369, zC_370, zC_371, zC_372, zC_373, zC_374, zC_375, zC_376, zC_378, zC_380, zC_381, zC_383, zC_384, zC_386, zC_387, zC_389, zC_390, zC_391, zC_392, zC_393, zC_394, zC_395, zC_396, zC_397, zC_398, zC_400, zC_402, zC_403, zC_405, zC_407, zC_409, zC_411, zC_413, zC_415, zC_417, zC_420, zC_421, zC_422, zC_423, zC_424, zC_425, zC_427, zC_429, zC_431, zC_433, zC_436, zC_437, zC_438, zC_439, zC_440, zC_441, zC_442, zC_443, zC_444, zC_445, zC_447, zC_448, zC_450, zC_451, zC_453, zC_454, zC_455, zC_456, zC_457, zC_458, zC_460, zC_461, zC_462, zC_463, zC_464, zC_465, zC_466, zC_467, zC_468, zC_469, zC_471, zC_473, zC_474, zC_476, zC_477, zC_478, zC_479, zC_480, zC_481, zC_482, zC_483, zC_484, zC_485, zC_487, zC_489, zC_490, zC_491, zC_493, zC_495, zC_497, zC_499]
  rw [h4]
  refine J_andL (by omega) ?_
  have G : GB (h 413) (h 384 4) (h 412 1) (st (st (st h 388 16 412) 388 17 (h 384 4)) 388 18 (h 412 1)) := ⟨by rw [st_nj (by omega), st_nj (by omega), st_eq], by rw [st_nj (by omega), st_eq], st_eq _ _ _ _, by omega, fun i i0 i1 => by rw [st_na (by omega), st_na (by omega), st_na (by omega)]⟩
  have M : GNt (h 413) (w 117 4 - h 384 4) (h 384 4) (h 412 1) w := ⟨by omega, by omega, by omega, by omega, fun i i0 i1 => (s4.2 i i0 i1).1.symm⟩
  have F0 : Fz tkC h (st (st (st h 388 16 412) 388 17 (h 384 4)) 388 18 (h 412 1)) := Fz_st (Fz_st (Fz_st Fz_0 (by unfold tkC; omega)) (by unfold tkC; omega)) (by unfold tkC; omega)
  refine p_parts8 G M (fun i i0 i1 => (s4.2 i i0 i1).2) eg ⟨by rw [st_nj (by omega), st_nj (by omega), st_nj (by omega)]; exact e3.1, e3.2⟩ ?_ ?_
  · intro c a1 h1 w1 m2 m3 m4 m5 m6 m7 c0 ha G1 M1 e31 e61 D BLx F1 W1
    simp only [e_kIv]
    refine J_andL (by omega) ?_
    rw [G1.2.1]
    have F2 : Fz tkC h (st h1 384 4 a1) := Fz_st (Fz_tr F0 (fun a j q => F1 a j (fun z => q (Or.inl z)))) (by unfold tkC; omega)
    have hx : ∀ a j, ¬ tkC a j → st h1 384 4 a1 a j = h a j := fun a j q => F2 a j q
    have S2 : TSp (st h1 384 4 a1) w1 := by
      have tx : ∀ k, 0 ≤ k → k < 7 → h1 (404 + 2 * k) 1 = h (404 + 2 * k) 1 := fun k k0 k1 => by rw [F1 _ _ (by unfold pr8C; omega), st_na (by omega), st_na (by omega), st_na (by omega)]
      have ty : ∀ k i, 0 ≤ k → k < 7 → h1 (404 + 2 * k + 1) i = h (404 + 2 * k + 1) i := fun k i k0 k1 => by rw [F1 _ _ (by unfold pr8C; omega), st_na (by omega), st_na (by omega), st_na (by omega)]
      have tz : ∀ k, k ≠ 4 → h1 384 k = h 384 k := fun k k4 => by rw [F1 _ _ (by unfold pr8C; omega), st_na (by omega), st_na (by omega), st_na (by omega)]
      refine ⟨⟨fun k k0 k1 => ?_, fun k k0 k1 => ?_⟩, fun k k0 k1 => ?_⟩
      · rw [st_na (by omega), F1 _ _ (by unfold pr8C; omega), st_na (by omega), st_na (by omega), st_na (by omega)]; exact S.1.1 k k0 k1
      · rw [show st h1 384 4 a1 (404 + 2 * k) 1 = h1 (404 + 2 * k) 1 from st_na (by omega), tx k k0 k1]
        by_cases z : k = 4
        · rw [z, st_eq, show (404 + 2 * 4 : Int) = 412 from rfl]
          have := G1.2.2.2.1
          omega
        · rw [st_nj (by omega), tz k z]; exact S.1.2 k k0 k1
      · have e21 : ∀ i, w1 21 i = w 21 i := fun i => W1 _ _ (by unfold pr8M; omega)
        have e118 : w1 118 k = w 118 k := W1 _ _ (by unfold pr8M; omega)
        have ed : w1 117 k - st h1 384 4 a1 384 k = w 117 k - h 384 k := by
          by_cases z : k = 4
          · rw [z, st_eq, M1.1]; omega
          · rw [st_nj (by omega), tz k z, W1 117 k (by unfold pr8M; omega)]
        rw [ed, e118, show st h1 384 4 a1 (404 + 2 * k) 1 = h1 (404 + 2 * k) 1 from st_na (by omega), tx k k0 k1]
        have sk := S.2 k k0 k1
        refine ⟨sk.1, fun i i0 i1 => ?_⟩
        rw [st_na (by omega), ty k i k0 k1, e21]
        exact sk.2 i i0 i1
    have e77 : w1 17 77 = 0 := by rw [W1 _ _ (by unfold pr8M; omega)]; exact z7
    have gl : GLX (st h1 384 4 a1) w1 := by
      refine ⟨⟨?_, by omega, fun i i0 i1 => by omega⟩, Or.inl ⟨?_, ?_, by rw [e61]; exact c0, ?_, fun i i0 i1 => ?_, ?_⟩⟩
      · rw [hx _ _ (by unfold tkC pr8C; omega), e77]; exact z1
      · rw [hx _ _ (by unfold tkC pr8C; omega)]; exact e0
      · rw [W1 _ _ (by unfold pr8M; omega)]; exact e75
      · rw [st_na (by omega), e31, e61]
      · rw [e61] at i1
        rw [st_na (by omega)]
        exact D i i0 i1
      · rw [e61]
        exact ⟨by rw [st_na (by omega)]; exact BLx.1, fun i hi => by rw [st_na (by omega)]; exact BLx.2 i hi⟩
    exact ok (st h1 384 4 a1) w1 _ _ _ _ _ _ S2 gl e77 F2 W1
  · intro h1 w1 F1 W1
    simp only [e_kIv]
    refine J_andL (by omega) ?_
    exact bad _ w1 (Fz_st (Fz_tr F0 (fun a j q => F1 a j (fun z => q (Or.inl z)))) (by unfold tkC; omega)) W1
end
