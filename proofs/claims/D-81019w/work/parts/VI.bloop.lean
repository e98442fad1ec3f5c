set_option maxRecDepth 100000
def lcs (x : Int) (V' : Nat → Int) : Nat → List Int
  | 0 => []
  | k + 1 => lcs x V' k ++ lcb x (V' k)
theorem lcs_l (x : Int) (V' : Nat → Int) : ∀ k : Nat, ((lcs x V' k).length : Int) = k * (if x = 0 then 2 else 4)
  | 0 => by simp [lcs]
  | k + 1 => by
    have a := lcs_l x V' k
    have b := lcb_l x (V' k)
    simp only [lcs, List.length_append]
    by_cases z : x = 0
    · rw [if_pos z] at a b ⊢; omega
    · rw [if_neg z] at a b ⊢; omega
theorem lcs_c {x : Int} {U V' : Nat → Int} : ∀ k : Nat, (∀ j, j < k → U j = V' j) → lcs x U k = lcs x V' k
  | 0, _ => rfl
  | k + 1, e => by simp only [lcs]; rw [lcs_c k (fun j hj => e j (by omega)), e k (by omega)]
section
variable {A B : Qt → Prop} {Φ : Out → Int → Mem → Out → Int → Mem → Prop} {KL KM : Qt → Qt} {n m : Int} {h w : Mem} {gn fmt s0 L e o5 o6 x7 x11 x13 x14 cnt y4 y7 bm : Int}
/-- all glyphs (183 from 320 on, 456 from 337 on) -/
theorem p_bloop {o11 : Option V} (S : TSp h w) (fl : h 382 5 = 1) (eg : w 17 70 = gn ∧ 1 ≤ gn ∧ gn ≤ 64) (ec : cnt = (gn + 31) / 32 * 4) (hb : w 117 5 - h 384 5 = bm) (hs : cnt ≤ h 414 1) (O : RO h w)
    (ov : (y7 = 0 ∧ x13 = 0) ∨ (y7 = 1 ∧ 0 < x13 ∧ w 118 6 = x14 ∧ 0 ≤ x14 ∧ x14 + (gn + 7) / 8 ≤ h 277 1))
    (q5 : 17 ≤ o5 ∧ o5 + 1 < 276 ∧ ((gC.1 (o5 + 1)).2 : Int) = 12000) (q6 : 17 ≤ o6 ∧ o6 + 1 < 276 ∧ ((gC.1 (o6 + 1)).2 : Int) = 12000) (q56 : o5 + 1 < o6 ∨ o6 + 1 < o5)
    (BG0 : BG h o5 12000 []) (OL0 : OL w []) (BL0 : BL h o6 (lcb fmt 0)) (fz : w 17 2 = 0) (n0 : 500 ≤ n) (n1 : n < 580)
    (bad : ∀ (k : Int) (h1 w1 : Mem), w1 17 2 = 57 → w1 17 3 = k → Fz (bsC o5 o6) h h1 → Fz (fun a j => bsM a j ∨ (a = 17 ∧ (j = 2 ∨ j = 3))) w w1 → J2 (fun Q => KL Q (.inr n) (n + 1) (flt h1 n 57 k)) (fun Q => KM Q (.inl none) m w1) Φ)
    (fin : ∀ (G : List Int) (V' : Nat → Int) (h1 w1 : Mem) (o11 : Option V), TSp h1 w1 → BG h1 o5 12000 G → OL w1 G → byt G → (G.length : Int) ≤ 256000 → BL h1 o6 (lcs fmt V' (gn.toNat + 1)) → (∀ j : Nat, (j : Int) ≤ gn → 0 ≤ V' j ∧ V' j ≤ 12000) → ((G.length : Int) ≤ 12000 → V' gn.toNat = G.length ∧ ∀ j : Nat, (j : Int) < gn → V' j = w1 119 j) → w1 17 2 = 0 → w1 17 70 = gn → Fz (bsC o5 o6) h h1 → Fz bsM w w1 →
      J2 (fun Q => T_at gC 183 439 [some (vR 25 382), some (vR 2 277), some (vI s0), some (vI L), some (vI e), some (vR 2 o5), some (vR 2 o6), some (vI x7), some (vI gn), some (vI fmt), some (vI 1), some (vL x11), none, some (vI x13), some (vI x14), some (vI cnt), some (vI 0)] [] n h1 (KL Q)) (fun Q => T_at gM 456 420 [some (vR 33 17), some (vI e), some (vI s0), some (vI L), some (vL y4), none, some (vI fmt), some (vI y7), some (vI bm), some (vI cnt), some (vI 0), o11] [] m (st w1 119 gn G.length) (KM Q)) Φ) :
    J2 (fun Q => T_at gC 183 320 [some (vR 25 382), some (vR 2 277), some (vI s0), some (vI L), some (vI e), some (vR 2 o5), some (vR 2 o6), some (vI x7), some (vI gn), some (vI fmt), some (vI 1), some (vL x11), none, some (vI x13), some (vI x14), some (vI cnt), some (vI 0)] [] n h (KL Q)) (fun Q => T_at gM 456 337 [some (vR 33 17), some (vI e), some (vI s0), some (vI L), some (vL y4), none, some (vI fmt), some (vI y7), some (vI bm), some (vI cnt), some (vI 0), o11] [] m w (KM Q)) Φ := by
  have key : ∀ (d k : Nat) (G : List Int) (V' : Nat → Int) (h1 w1 : Mem) (o11 : Option V), (k : Int) + d = gn → TSp h1 w1 → h1 382 5 = 1 → BG h1 o5 12000 G → OL w1 G → byt G → G.length % 4 = 0 → (G.length : Int) ≤ 4000 * k → BL h1 o6 (lcs fmt V' (k + 1)) → (∀ j : Nat, j ≤ k → 0 ≤ V' j ∧ V' j ≤ 12000) → ((G.length : Int) ≤ 12000 → V' k = G.length ∧ ∀ j : Nat, j < k → V' j = w1 119 j) → w1 17 2 = 0 → Fz (bsC o5 o6) h h1 → Fz bsM w w1 →
      J2 (fun Q => T_at gC 183 320 [some (vR 25 382), some (vR 2 277), some (vI s0), some (vI L), some (vI e), some (vR 2 o5), some (vR 2 o6), some (vI x7), some (vI gn), some (vI fmt), some (vI 1), some (vL x11), none, some (vI x13), some (vI x14), some (vI cnt), some (vI k)] [] n h1 (KL Q)) (fun Q => T_at gM 456 337 [some (vR 33 17), some (vI e), some (vI s0), some (vI L), some (vL y4), none, some (vI fmt), some (vI y7), some (vI bm), some (vI cnt), some (vI k), o11] [] m w1 (KM Q)) Φ := by
    intro d
    induction d with
    | zero =>
      intro k G V' h1 w1 o11 hk S1 f1 B1 L1 bG g4 gl C1 vr vv z1 F1 W1
      have e70 : w1 17 70 = gn := by rw [W1 _ _ (by unfold bsM tgM olM; omega)]; exact eg.1
      have kn : (k : Int) = gn := by omega
      have kt : gn.toNat = k := by omega
      refine J_impL (fun Q hq => blk (md := true) [17, 37, 87, 88, 98, 134, 161, 162, 181, 202, 290, 320, 345, 405, 406, 439, 502] 99 GC FC rfl k183 hq) ?_
      refine J_impR (fun Q hq => blk (md := true) [80, 126, 131, 196, 230, 260, 337, 378, 420, 476, 504, 530, 587] 99 GM FM rfl k456 hq) ?_
      simp -implicitDefEqProofs only [r_iconst, r_bipush, r_sipush, r_ldc, r_ldc_w, r_lconst, r_ldc2_w, r_aconst_null, r_iload, r_iload_n, r_lload, r_lload_n, r_aload, r_aload_n, r_istore, r_istore_n, r_lstore, r_lstore_n, r_astore, r_astore_n, r_iinc, r_iadd, r_iaddW, r_isub, r_isubW, r_imul, r_imulW, r_ladd, r_laddW, r_lsub, r_lsubW, r_lmul, r_lmulW, r_iand, r_ior, r_ishl, r_ishr, r_iushr, r_land, r_lor, r_lshl, r_lshr, r_lushr, r_idiv, r_irem, r_ldiv, r_lrem, r_lcmp, r_ineg, r_i2l, r_l2i, r_i2b, r_i2s, r_i2c, r_dup, r_pop, r_dup_x1, r_dup_x2, r_dup2, r_dup2L, r_icmp_eq, r_icmp_ne, r_icmp_lt, r_icmp_ge, r_icmp_gt, r_icmp_le, r_if_eq, r_if_ne, r_if_lt, r_if_ge, r_if_gt, r_if_le, r_acmp_eq, r_acmp_ne, r_ifnull, r_ifnonnull, r_goto, r_nop, r_tsw, r_lsw, r_getfield, r_getfinal, r_putfield, r_getstaticL, r_getstaticR, r_iaload, r_baload, r_saload, r_laload, r_aaload, r_aaloadM, r_iastore, r_bastore, r_zastore, r_sastore, r_lastore, r_aastore, r_alen, r_new, r_newarray, r_anewarray, r_invV, r_invI, r_objI, r_invS, r_acp, r_ireturn, r_zreturn, r_lreturn, r_return, r_areturn, r_athrow, ↓e_pI, ↓e_pL, ↓e_pR, ↓e_lg0, ↓e_lg1, ↓e_tk0, ↓e_tkI0, ↓e_tkI1, ↓e_tkI2, ↓e_tkI3, ↓e_tkI4, ↓e_tkL, ↓e_tkR0_0, ↓e_tkR0_1, ↓e_tkR1_0, ↓e_tkR1_1, ↓e_tkR2_0, ↓e_tkR2_1, ↓e_tkR3_0, ↓e_tkR3_1, ↓e_tkR4_0, ↓e_tkR4_1, ↓e_tkR5_0, ↓e_tkR5_1, ↓e_tkR6_0, ↓e_tkR6_1, ↓e_tkR7_0, ↓e_tkR7_1, ↓e_tkR8_0, ↓e_tkR8_1, ↓e_tkR9_0, ↓e_tkR9_1, ↓e_tkR10_0, ↓e_tkR10_1, ↓e_tkR11_0, ↓e_tkR11_1, ↓e_tkR12_0, ↓e_tkR12_1, ↓e_tkR13_0, ↓e_tkR13_1, ↓e_tkR14_0, ↓e_tkR14_1, ↓e_tkR15_0, ↓e_tkR15_1, ↓e_tkR16_0, ↓e_tkR16_1, ↓e_tkR17_0, ↓e_tkR17_1, ↓e_tkR39_0, ↓e_tkR39_1, ↓e_tkR40_0, ↓e_tkR40_1, ↓e_tkR41_0, ↓e_tkR41_1, ↓e_tkR42_0, ↓e_tkR42_1, ↓e_tkR43_0, ↓e_tkR43_1, ↓e_tkR44_0, ↓e_tkR44_1, ↓e_tkR45_0, ↓e_tkR45_1, ↓e_tkR46_0, ↓e_tkR46_1, ↓e_tkR47_0, ↓e_tkR47_1, ↓e_tkR48_0, ↓e_tkR48_1, ↓e_pv0, ↓e_pv1, ↓e_pv2, ↓e_pv3, ↓e_pv5, ↓e_pvR, ↓e_tsw0, ↓e_tsw1, ↓e_lsw0, ↓e_lsw1, e_kq100, e_kq0, e_kq3, e_kq5, e_kqR0, e_kqR1, e_kqR2, e_kqR3, e_kqR4, e_kqR5, e_kqR6, e_kqR7, e_kqR8, e_kqR9, e_kqR10, e_kqR11, e_kqR12, e_kqR13, e_kqR14, e_kqR15, e_kqR16, e_kqR17, e_kqR39, e_kqR40, e_kqR41, e_kqR42, e_kqR43, e_kqR44, e_kqR45, e_kqR46, e_kqR47, e_kqR48, e_st0I, e_st0R, e_st0L, e_st1N, e_st1I, e_st1L, e_st1R, e_st2, e_wd0, e_wdI, e_wdL, e_wdR, e_c1I, e_c1R, e_gv0, e_gv1, e_gv2, e_gv3, e_gv4, e_gv5, e_gvR0, e_gvR1, e_gvR2, e_gvR3, e_gvR4, e_gvR5, e_gvR6, e_gvR7, e_gvR8, e_gvR9, e_gvR10, e_gvR11, e_gvR12, e_gvR13, e_gvR14, e_gvR15, e_gvR16, e_gvR17, e_gvR39, e_gvR40, e_gvR41, e_gvR42, e_gvR43, e_gvR44, e_gvR45, e_gvR46, e_gvR47, e_gvR48, e_kX0, e_kX1, e_kVv, e_kVx, e_kIv, e_kIx, e_kLv, e_kLx, e_kRv, e_kRx, e_thr, e_lk1, e_ic0, e_ic1, e_jm, st_ap, clr_ap, e_lceq, e_lclt, e_lcgt, nn, ↓reduceIte, Nat.reduceDiv, Nat.reduceMod, Nat.reduceMul, Nat.reduceAdd, Nat.reduceEqDiff, Nat.reduceLeDiff, Int.reduceNatCast, Int.cast_ofNat_Int, Int.reduceSub, Int.reduceMul, Int.reduceNeg, Int.reduceAdd, Int.reduceLE, Int.reduceLT, Int.reduceEq, Int.reduceNe, true_and, and_true, true_or, and_self, ne_eq, not_false_eq_true, Bool.false_eq_true, reduceCtorEq, rd_l1, rd_l2, rd_l3, rd_l4, rd_l5, rd_l6, rd_l7, rd_l8, rd_l9, SB, rd_ge, i2b_2, false_and, and_false, not_true_eq_false, l183_0, l183_10, l183_17, l183_29, l183_37, l183_87, l183_88, l183_98, l183_134, l183_161, l183_162, l183_181, l183_193, l183_202, l183_270, l183_290, l183_309, l183_320, l183_345, l183_357, l183_405, l183_406, l183_436, l183_439, l183_478, l183_484, l183_502, l183_514, s183_0, s183_10, s183_17, s183_29, s183_37, s183_87, s183_88, s183_98, s183_134, s183_161, s183_162, s183_181, s183_193, s183_202, s183_270, s183_290, s183_309, s183_320, s183_345, s183_357, s183_405, s183_406, s183_436, s183_439, s183_478, s183_484, s183_502, s183_514, l456_0, l456_80, l456_89, l456_125, l456_126, l456_131, l456_194, l456_196, l456_228, l456_230, l456_239, l456_259, l456_260, l456_277, l456_318, l456_337, l456_377, l456_378, l456_394, l456_404, l456_420, l456_454, l456_460, l456_475, l456_476, l456_504, l456_513, l456_530, l456_570, l456_587, l456_626, s456_0, s456_80, s456_89, s456_125, s456_126, s456_131, s456_194, s456_196, s456_228, s456_230, s456_239, s456_259, s456_260, s456_277, s456_318, s456_337, s456_377, s456_378, s456_394, s456_404, s456_420, s456_454, s456_460, s456_475, s456_476, s456_504, s456_513, s456_530, s456_570, s456_587, s456_626, zC_18, zC_20, zC_21, zC_22, zC_23, zC_25, zC_26, zC_253, zC_254, zC_256, zC_257, zC_259, zC_260, zC_262, zC_263, zC_265, zC_266, zC_268, zC_269, zC_271, zC_272, zC_274, zC_275, zC_278, zC_279, zC_280, zC_281, zC_282, zC_284, zC_285, zC_287, zC_288, zC_290, zC_291, zC_293, zC_294, zC_296, zC_297, zC_299, zC_300, zC_302, zC_303, zC_304, zC_305, zC_306, zC_307, zC_308, zC_309, zC_310, zC_311, zC_312, zC_315, zC_316, zC_317, zC_319, zC_320, zC_321, zC_323, zC_324, zC_325, zC_327, zC_328, zC_329, zC_331, zC_332, zC_333, zC_335, zC_336, zC_337, zC_339, zC_340, zC_341, zC_343, zC_344, zC_345, zC_347, zC_348, zC_349, zC_350, zC_351, zC_352, zC_353, zC_354, zC_355, zC_356, zC_357, zC_358, zC_359, zC_361, zC_362, zC_363, zC_364, zC_367, zC_368, zC_369, zC_370, zC_371, zC_372, zC_373, zC_374, zC_375, zC_376, zC_378, zC_380, zC_381, zC_383, zC_384, zC_386, zC_387, zC_389, zC_390, zC_391, zC_392, zC_393, zC_394, zC_395, zC_396, zC_397, zC_398, zC_400, zC_402, zC_403, zC_405, zC_407, zC_409, zC_411, zC_413, zC_415, zC_417, zC_420, zC_421, zC_422, zC_423, zC_424, zC_425, zC_427, zC_429, zC_431, zC_433, zC_436, zC_437, zC_438, zC_439, zC_440, zC_441, zC_442, zC_443, zC_444, zC_445, zC_447, zC_448, zC_450, zC_451, zC_453, zC_454, zC_455, zC_456, zC_457, zC_458, zC_460, zC_461, zC_462, zC_463, zC_464, zC_465, zC_466, zC_467, zC_468, zC_469, zC_471, zC_473, zC_474, zC_476, zC_477, zC_478, zC_479, zC_480, zC_481, zC_482, zC_483, zC_484, zC_485, zC_487, zC_489, zC_490, zC_491, zC_493, zC_495, zC_497, zC_499, zM_18, zM_19, zM_20, zM_21, zM_22, zM_23, zM_24, zM_25, zM_26, zM_27, zM_28, zM_29, zM_30, zM_31, zM_32, zM_33, zM_34, zM_35, zM_36, zM_37, zM_38, zM_39, zM_40, zM_41, zM_42, zM_43, zM_44, zM_45, zM_46, zM_47, zM_48, zM_49, zM_50, zM_51, zM_52, zM_53, zM_54, zM_55, zM_56, zM_57, zM_58, zM_59, zM_60, zM_61, zM_62, zM_63, zM_64, zM_65, zM_66, zM_67, zM_68, zM_69, zM_70, zM_71, zM_72, zM_73, zM_74, zM_75, zM_76, zM_77, zM_78, zM_79, zM_80, zM_81, zM_82, zM_83, zM_84, zM_85, zM_86, zM_87, zM_88, zM_89, zM_90, zM_91, zM_92, zM_93, zM_94, zM_95, zM_96, zM_97, zM_98, zM_99, zM_100, zM_101, zM_102, zM_103, zM_104, zM_105, zM_106, zM_107, zM_108, zM_109, zM_110, zM_111, zM_112, zM_113, zM_114, zM_115, zM_116, zM_117, zM_118, zM_119]
      rw [e70, L1.1]
      refine J_negL (by omega) (J_negR (by omega) (J_andR (by omega) (J_andR (by omega) ?_)))
      exact fin G V' h1 w1 _ S1 B1 L1 bG (by omega) (by rw [kt]; exact C1) (fun j hj => vr j (by omega)) (fun z => by rw [kt]; exact ⟨(vv z).1, fun j hj => (vv z).2 j (by omega)⟩) z1 e70 F1 W1
    | succ d ih =>
      intro k G V' h1 w1 o11 hk S1 f1 B1 L1 bG g4 gl C1 vr vv z1 F1 W1
      have hx : ∀ a j, ¬ bsC o5 o6 a j → h1 a j = h a j := F1
      have wx : ∀ a j, ¬ bsM a j → w1 a j = w a j := W1
      have e70 : w1 17 70 = gn := by rw [wx _ _ (by unfold bsM tgM olM; omega)]; exact eg.1
      have h77 : h1 277 1 = h 277 1 := hx _ _ (by unfold bsC tgC lyC bdC; omega)
      have z5 : h1 414 1 = h 414 1 := hx _ _ (by unfold bsC tgC lyC bdC; omega)
      have e118 : ∀ j, w1 118 j = w 118 j := fun j => wx _ _ (by unfold bsM tgM olM; omega)
      have hb1 : w1 117 5 - h1 384 5 = bm := by
        have t1 := (S1.2 5 (by omega) (by omega)).1
        have t0 := (S.2 5 (by omega) (by omega)).1
        rw [show (404 + 2 * 5 : Int) = 414 from rfl] at t1 t0
        rw [e118, z5] at t1
        omega
      have O1 : RO h1 w1 := ⟨⟨by rw [h77, wx _ _ (by unfold bsM tgM olM; omega)]; exact O.1.1, by rw [h77]; exact O.1.2.1, by rw [h77]; exact O.1.2.2⟩, fun i i0 i1 => by
        rw [h77] at i1
        rw [hx _ _ (by unfold bsC tgC lyC bdC; omega), wx _ _ (by unfold bsM tgM olM; omega)]; exact O.2 i i0 i1⟩
      have lk := lcs_l fmt V' (k + 1)
      refine p_bstep (k := (k : Int)) (G := G) (LC := lcs fmt V' (k + 1)) S1 f1 ⟨e70, eg.2⟩ (by omega) hb1 (by omega) O1 ?_ q5 q6 q56 B1 L1 g4 gl C1 (by by_cases z : fmt = 0; rw [if_pos z] at lk; omega; rw [if_neg z] at lk; omega) z1 n0 n1 ?_ ?_
      · rcases ov with v | ⟨v1, v2, v3, v4, v5⟩
        · exact Or.inl v
        · exact Or.inr ⟨v1, v2, by rw [e118]; exact v3, v4, by omega⟩
      · intro h2 w2 e1 e2 F2 W2
        exact bad k h2 w2 e1 e2 (Fz_tr F1 F2) (Fz_tr (fun a j q => W1 a j (fun z => q (Or.inl z))) W2)
      · intro R v h2 w2 o S2 f2 B2 L2 bR r4 rl C2 v0 ve e119 z2 F2 W2
        have nx := ih (k + 1) (G ++ R) (fun j => if j = k + 1 then v else V' j) h2 w2 o (by omega) S2 f2 B2 L2 (byt_a bG bR) (by rw [List.length_append]; omega) (by rw [List.length_append]; omega) ?_ ?_ ?_ z2 (Fz_tr F1 F2) (Fz_tr W1 (fun a j q => W2 a j (fun z => q z.1)))
        · rw [show ((k + 1 : Nat) : Int) = (k : Int) + 1 by omega] at nx
          exact nx
        · have e1 : lcs fmt (fun j => if j = k + 1 then v else V' j) (k + 1 + 1) = lcs fmt V' (k + 1) ++ lcb fmt v := by
            rw [lcs, lcs_c (V' := V') (k + 1) (fun j hj => if_neg (by omega)), if_pos rfl]
          rw [e1]; exact C2
        · intro j hj
          show 0 ≤ (if j = k + 1 then v else V' j) ∧ (if j = k + 1 then v else V' j) ≤ 12000
          by_cases z : j = k + 1
          · rw [if_pos z]; exact v0
          · rw [if_neg z]; exact vr j (by omega)
        · intro z
          have zl : (G.length : Int) ≤ 12000 := by rw [List.length_append] at z; omega
          refine ⟨by show (if k + 1 = k + 1 then v else V' (k + 1)) = _; rw [if_pos rfl]; exact ve z, fun j hj => ?_⟩
          show (if j = k + 1 then v else V' j) = _
          rw [if_neg (by omega)]
          by_cases y : j = k
          · rw [y, (vv zl).1, e119]
          · rw [(vv zl).2 j (by omega), W2 119 j (fun q => by have := q.2 rfl; omega)]
  have st0 := key gn.toNat 0 [] (fun _ => 0) h w o11 (by omega) S fl BG0 OL0 byt_0 rfl (by simp) (by simp only [lcs, List.nil_append]; exact BL0) (fun j hj => by omega) (fun z => ⟨rfl, fun j hj => by omega⟩) fz Fz_0 Fz_0
  exact st0
end
