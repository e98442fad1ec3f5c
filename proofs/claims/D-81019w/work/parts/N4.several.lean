set_option maxRecDepth 100000
def mbt (M p : Int) : Bool := decide (ian (isr M p) 1 = 1)
theorem mbt_t {M p : Int} (e : mbt M p = true) : ian (isr M p) 1 = 1 := of_decide_eq_true e
theorem mbt_f {M p : Int} (e : mbt M p = false) : ian (isr M p) 1 = 0 := by
  have h1 : ¬ ian (isr M p) 1 = 1 := of_decide_eq_false e
  have h2 := ian_1 (isr M p)
  omega
def acf (M : Int) (c : Int → Int) (j : Int) : Bool := mbt M (j / 16) && decide (j % 16 < c (j / 16))
theorem acf_t {M p i : Int} {c : Int → Int} (p0 : 0 ≤ p) (i0 : 0 ≤ i ∧ i < 16) (e : mbt M p = true) (l : i < c p) : acf M c (16 * p + i) = true := by
  unfold acf
  rw [show (16 * p + i) / 16 = p by omega, show (16 * p + i) % 16 = i by omega, e, decide_eq_true l]; rfl
theorem acf_n {M p i : Int} {c : Int → Int} (p0 : 0 ≤ p) (i0 : 0 ≤ i ∧ i < 16) (l : mbt M p = true → c p ≤ i) : acf M c (16 * p + i) = false := by
  unfold acf
  rw [show (16 * p + i) / 16 = p by omega, show (16 * p + i) % 16 = i by omega]
  rcases e : mbt M p with _ | _
  · rfl
  · rw [decide_eq_false (by have := l e; omega)]; rfl
theorem acf_i {M j : Int} {c : Int → Int} (e : acf M c j = true) : mbt M (j / 16) = true ∧ j % 16 < c (j / 16) := by
  unfold acf at e
  exact ⟨(Bool.and_eq_true_iff.1 e).1, of_decide_eq_true (Bool.and_eq_true_iff.1 e).2⟩
/-- the rest of a font's slots -/
theorem snl_p {M p : Int} {c bo : Int → Int} (p0 : 0 ≤ p) (c0 : mbt M p = true → 0 ≤ c p ∧ c p ≤ 16) : snl (acf M c) bo (16 * (p + 1)).toNat = snl (acf M c) bo (16 * p + (if mbt M p = true then c p else 0)).toNat := by
  have e : ∀ x : Int, 0 ≤ x → x ≤ 16 → (mbt M p = true → c p ≤ x) → snl (acf M c) bo (16 * (p + 1)).toNat = snl (acf M c) bo (16 * p + x).toNat := fun x x0 x1 q => by
    have := snl_sk (ac := acf M c) (bo := bo) (N := 16 * p + x) (by omega) (16 - x).toNat (fun j a b => by
      have := acf_n (M := M) (p := p) (i := j - 16 * p) (c := c) p0 (by omega) (fun g => by have := q g; omega)
      rw [show 16 * p + (j - 16 * p) = j by omega] at this
      exact this)
    rw [← this, show 16 * p + x + ((16 - x).toNat : Int) = 16 * (p + 1) by omega]
  rcases g : mbt M p with _ | _
  · rw [if_neg (by simp)]; exact e 0 (by omega) (by omega) (fun q => by rw [g] at q; exact Bool.noConfusion q)
  · rw [if_pos rfl]; have := c0 g; exact e _ (by omega) (by omega) (fun _ => by omega)
theorem dst_z {mb : Int → Bool} {c : Int → Int} {s0 : Int} : ∀ k : Nat, dst mb c s0 k = s0 + dst mb c 0 k := by
  intro k
  induction k with
  | zero => rw [dst, dst]; omega
  | succ k ih => rw [dst, dst]; split <;> omega
theorem dst_i {mb : Int → Bool} {c : Int → Int} {s0 p : Int} (p0 : 0 ≤ p) : dst mb c s0 (p + 1).toNat = (if mb p = true then dst mb c s0 p.toNat + (12 + 16 * c p) else dst mb c s0 p.toNat) ∧ stL mb c s0 (p + 1).toNat = (if mb p = true then stL mb c s0 p.toNat ++ f4 (dst mb c s0 p.toNat) else stL mb c s0 p.toNat) ∧ mny mb (p + 1).toNat = (if mb p = true then mny mb p.toNat + 1 else mny mb p.toNat) := by
  rw [show (p + 1).toNat = p.toNat + 1 by omega, dst, stL, mny, show ((p.toNat : Nat) : Int) = p by omega]
  exact ⟨rfl, rfl, rfl⟩
theorem dsL_i {mb : Int → Bool} {d : Int → List Int} {p : Int} (p0 : 0 ≤ p) : dsL mb d (p + 1).toNat = (if mb p = true then dsL mb d p.toNat ++ d p else dsL mb d p.toNat) := by
  rw [show (p + 1).toNat = p.toNat + 1 by omega, dsL, show ((p.toNat : Nat) : Int) = p by omega]
def sfC (a j : Int) : Prop := (18 ≤ a ∧ a ≤ 22) ∨ (a = 17 ∧ j = 4)
section
variable {A B : Qt → Prop} {Φ : Out → Int → Mem → Out → Int → Mem → Prop} {KL KM : Qt → Qt} {n m : Int} {h w : Mem}
/-- one font of several: places, then its directory (66@199) -/
theorem c_fnt {M x2 x4 p base fl : Int} {c : Int → Int} {t : Int → Int} {kk zk : Int → Int} {LL : List Int} {h0 : Mem} (p0 : 0 ≤ p ∧ p < 4) (mb : mbt M p = true) (F : FTH p (c p) t (fun i => kk (16 * p + i)) (fun i => zk (kk (16 * p + i))) h0) (efl : h0 (252 + 6 * p) 1 = fl)
    (zr : ∀ x ∈ snl (acf M c) kk 64, 0 ≤ zk x ∧ zk x ≤ 12000) (b0 : 0 ≤ base ∧ base ≤ 2000)
    (fin : ∀ (h1 : Mem) (o6 o7 o8 o9 : Option V), SEE h1 (snl (acf M c) kk (16 * (p + 1)).toNat) base zk → BO h1 (LL ++ dirL fl (c p) t (bsh h0 t (fun i => kk (16 * p + i)) (fun i => zk (kk (16 * p + i)))) (fun i => base + plb zk (snl (acf M c) kk 64) (kk (16 * p + i))) (fun i => zk (kk (16 * p + i)))) → Fz sfC h0 h1 → J2 (fun Q => T_at gC 66 166 [some (vR 1 17), some (vI M), some (vI x2), some (vI (base + pls zk (snl (acf M c) kk (16 * (p + 1)).toNat))), some (vI x4), some (vI (p + 1)), o6, o7, o8, o9] [] n h1 (KL Q)) B Φ) :
    ∀ (h1 : Mem) (o8 o9 : Option V), SEE h1 (snl (acf M c) kk (16 * p).toNat) base zk → BO h1 LL → Fz sfC h0 h1 → J2 (fun Q => T_at gC 66 199 [some (vR 1 17), some (vI M), some (vI x2), some (vI (base + pls zk (snl (acf M c) kk (16 * p).toNat))), some (vI x4), some (vI p), some (vR 6 (252 + 6 * p)), some (vI 0), o8, o9] [] n h1 (KL Q)) B Φ := by
  have z16 := (fsz6 (p := p) p0).1
  have fe : ∀ {h1 : Mem}, Fz sfC h0 h1 → ∀ a j, 23 ≤ a → h1 a j = h0 a j := fun G a j x => G a j (by unfold sfC; omega)
  have FT : ∀ {h1 : Mem}, Fz sfC h0 h1 → FTH p (c p) t (fun i => kk (16 * p + i)) (fun i => zk (kk (16 * p + i))) h1 := fun G => FTH_t p0 F (fun a j x y => fe G a j (by omega))
  have cr := F.2.1
  have mon : ∀ N : Int, 0 ≤ N → N ≤ 64 → ∀ x ∈ snl (acf M c) kk N.toNat, x ∈ snl (acf M c) kk 64 := fun N a b x hx => by
    obtain ⟨j, j0, j1, j2⟩ := (snl_mem _).1 hx
    exact (snl_mem _).2 ⟨j, j0, by omega, j2⟩
  have plr : ∀ N : Int, 0 ≤ N → N ≤ 64 → 0 ≤ pls zk (snl (acf M c) kk N.toNat) ∧ pls zk (snl (acf M c) kk N.toNat) ≤ 768000 := fun N a b => by
    have h1 := pls_r (z := zk) (L := snl (acf M c) kk N.toNat) (fun x hx => zr x (mon N a b x hx))
    have h2 := snl_len (ac := acf M c) (bo := kk) N.toNat
    omega
  have key := lp (F := fun i => ∀ (h1 : Mem) (o8 o9 : Option V), SEE h1 (snl (acf M c) kk (16 * p + i).toNat) base zk → BO h1 LL → Fz sfC h0 h1 → (∀ j, 0 ≤ j → j < i → kk (16 * p + j) ∈ snl (acf M c) kk (16 * p + i).toNat ∧ h1 18 j = base + plb zk (snl (acf M c) kk (16 * p + i).toNat) (kk (16 * p + j))) → J2 (fun Q => T_at gC 66 199 [some (vR 1 17), some (vI M), some (vI x2), some (vI (base + pls zk (snl (acf M c) kk (16 * p + i).toNat))), some (vI x4), some (vI p), some (vR 6 (252 + 6 * p)), some (vI i), o8, o9] [] n h1 (KL Q)) B Φ) (b := 0) (n := c p) cr.1 ?_ ?_
  · intro h1 o8 o9 S O G
    have := key h1 o8 o9
    rw [show 16 * p + 0 = 16 * p by omega] at this
    exact this S O G (fun j a b => by omega)
  · intro i i0 i1 ih h1 o8 o9 S O G P
    obtain ⟨d1, d2, d3⟩ := FT G
    obtain ⟨e1, e2, e3, e4, e5⟩ := d3 i i0 i1
    have e3 : 0 ≤ kk (16 * p + i) ∧ kk (16 * p + i) < 112 := e3
    have e5 : 0 ≤ zk (kk (16 * p + i)) ∧ zk (kk (16 * p + i)) ≤ 12000 := e5
    have hN : 0 ≤ 16 * p + i ∧ 16 * p + i < 64 := by omega
    have ll := snl_len (ac := acf M c) (bo := kk) (16 * p + i).toNat
    obtain ⟨s, h2, ev2, s0, alt, es, F2⟩ := c_seen (n := n) (k := kk (16 * p + i)) (x3 := base + pls zk (snl (acf M c) kk (16 * p + i).toNat)) S (by omega) (fun _ => rfl) e3.1
    have act := acf_t (M := M) (c := c) p0.1 (i := i) (by omega) mb i1
    have pr := plr (16 * p + i) (by omega) (by omega)
    have pr2 := plr (16 * p + (i + 1)) (by omega) (by omega)
    have f2 : ∀ a j, a ≠ 21 → a ≠ 22 → ¬ (a = 17 ∧ j = 4) → h2 a j = h1 a j := fun a j x y q => F2 a j (by unfold seC; omega)
    have mem' : kk (16 * p + i) ∈ snl (acf M c) kk (16 * p + (i + 1)).toNat := (snl_mem _).2 ⟨16 * p + i, by omega, by omega, act, rfl⟩
    have G3 : Fz sfC h0 (st h2 18 i (h2 22 s)) := fun a j g => by
      have g' : ¬ ((18 ≤ a ∧ a ≤ 22) ∨ (a = 17 ∧ j = 4)) := g
      rw [st_na (by omega), f2 _ _ (by omega) (by omega) (by omega)]; exact G a j g
    have O3 : BO (st h2 18 i (h2 22 s)) LL := by
      have c19 : (st h2 18 i (h2 22 s)) 19 = h1 19 := funext fun j => by rw [st_na (by omega), f2 _ _ (by omega) (by omega) (by omega)]
      have c20 : (st h2 18 i (h2 22 s)) 20 = h1 20 := funext fun j => by rw [st_na (by omega), f2 _ _ (by omega) (by omega) (by omega)]
      unfold BO BL at O ⊢
      rw [c19, show (19 : Int) + 1 = 20 by omega, c20]
      rw [show (19 : Int) + 1 = 20 by omega] at O
      exact O
    have cells : ∀ a, a = 17 ∨ a = 21 ∨ a = 22 → ∀ j, (st h2 18 i (h2 22 s)) a j = h2 a j := fun a ha j => st_na (by omega)
    refine J_impL (fun Q hq => blk (md := true) [15, 101, 166, 199, 298] 99 GC FC rfl k66 hq) ?_
    simp -implicitDefEqProofs only [r_iconst, r_bipush, r_sipush, r_ldc, r_ldc_w, r_lconst, r_ldc2_w, r_aconst_null, r_iload, r_iload_n, r_lload, r_lload_n, r_aload, r_aload_n, r_istore, r_istore_n, r_lstore, r_lstore_n, r_astore, r_astore_n, r_iinc, r_iadd, r_iaddW, r_isub, r_isubW, r_imul, r_imulW, r_ladd, r_laddW, r_lsub, r_lsubW, r_lmul, r_lmulW, r_iand, r_ior, r_ishl, r_ishr, r_iushr, r_land, r_lor, r_lshl, r_lshr, r_lushr, r_idiv, r_irem, r_ldiv, r_lrem, r_lcmp, r_ineg, r_i2l, r_l2i, r_i2b, r_i2s, r_i2c, r_dup, r_pop, r_dup_x1, r_dup_x2, r_dup2, r_dup2L, r_icmp_eq, r_icmp_ne, r_icmp_lt, r_icmp_ge, r_icmp_gt, r_icmp_le, r_if_eq, r_if_ne, r_if_lt, r_if_ge, r_if_gt, r_if_le, r_acmp_eq, r_acmp_ne, r_ifnull, r_ifnonnull, r_goto, r_nop, r_tsw, r_lsw, r_getfield, r_getfinal, r_putfield, r_getstaticL, r_getstaticR, r_iaload, r_baload, r_saload, r_laload, r_aaload, r_aaloadM, r_iastore, r_bastore, r_zastore, r_sastore, r_lastore, r_aastore, r_alen, r_new, r_newarray, r_anewarray, r_invV, r_invI, r_objI, r_invS, r_acp, r_ireturn, r_zreturn, r_lreturn, r_return, r_areturn, r_athrow, ↓e_pI, ↓e_pL, ↓e_pR, ↓e_lg0, ↓e_lg1, ↓e_tk0, ↓e_tkI0, ↓e_tkI1, ↓e_tkI2, ↓e_tkI3, ↓e_tkI4, ↓e_tkL, ↓e_tkR0_0, ↓e_tkR0_1, ↓e_tkR1_0, ↓e_tkR1_1, ↓e_tkR2_0, ↓e_tkR2_1, ↓e_tkR3_0, ↓e_tkR3_1, ↓e_tkR4_0, ↓e_tkR4_1, ↓e_tkR5_0, ↓e_tkR5_1, ↓e_tkR6_0, ↓e_tkR6_1, ↓e_tkR7_0, ↓e_tkR7_1, ↓e_tkR8_0, ↓e_tkR8_1, ↓e_tkR9_0, ↓e_tkR9_1, ↓e_tkR10_0, ↓e_tkR10_1, ↓e_tkR11_0, ↓e_tkR11_1, ↓e_tkR12_0, ↓e_tkR12_1, ↓e_tkR13_0, ↓e_tkR13_1, ↓e_tkR14_0, ↓e_tkR14_1, ↓e_tkR15_0, ↓e_tkR15_1, ↓e_tkR16_0, ↓e_tkR16_1, ↓e_tkR17_0, ↓e_tkR17_1, ↓e_tkR39_0, ↓e_tkR39_1, ↓e_tkR40_0, ↓e_tkR40_1, ↓e_tkR41_0, ↓e_tkR41_1, ↓e_tkR42_0, ↓e_tkR42_1, ↓e_tkR43_0, ↓e_tkR43_1, ↓e_tkR44_0, ↓e_tkR44_1, ↓e_tkR45_0, ↓e_tkR45_1, ↓e_tkR46_0, ↓e_tkR46_1, ↓e_tkR47_0, ↓e_tkR47_1, ↓e_tkR48_0, ↓e_tkR48_1, ↓e_pv0, ↓e_pv1, ↓e_pv2, ↓e_pv3, ↓e_pv5, ↓e_pvR, ↓e_tsw0, ↓e_tsw1, ↓e_lsw0, ↓e_lsw1, e_kq100, e_kq0, e_kq3, e_kq5, e_kqR0, e_kqR1, e_kqR2, e_kqR3, e_kqR4, e_kqR5, e_kqR6, e_kqR7, e_kqR8, e_kqR9, e_kqR10, e_kqR11, e_kqR12, e_kqR13, e_kqR14, e_kqR15, e_kqR16, e_kqR17, e_kqR39, e_kqR40, e_kqR41, e_kqR42, e_kqR43, e_kqR44, e_kqR45, e_kqR46, e_kqR47, e_kqR48, e_st0I, e_st0R, e_st0L, e_st1N, e_st1I, e_st1L, e_st1R, e_st2, e_wd0, e_wdI, e_wdL, e_wdR, e_c1I, e_c1R, e_gv0, e_gv1, e_gv2, e_gv3, e_gv4, e_gv5, e_gvR0, e_gvR1, e_gvR2, e_gvR3, e_gvR4, e_gvR5, e_gvR6, e_gvR7, e_gvR8, e_gvR9, e_gvR10, e_gvR11, e_gvR12, e_gvR13, e_gvR14, e_gvR15, e_gvR16, e_gvR17, e_gvR39, e_gvR40, e_gvR41, e_gvR42, e_gvR43, e_gvR44, e_gvR45, e_gvR46, e_gvR47, e_gvR48, e_kX0, e_kX1, e_kVv, e_kVx, e_kIv, e_kIx, e_kLv, e_kLx, e_kRv, e_kRx, e_thr, e_lk1, e_ic0, e_ic1, e_jm, st_ap, clr_ap, e_lceq, e_lclt, e_lcgt, nn, ↓reduceIte, Nat.reduceDiv, Nat.reduceMod, Nat.reduceMul, Nat.reduceAdd, Nat.reduceEqDiff, Nat.reduceLeDiff, Int.reduceNatCast, Int.cast_ofNat_Int, Int.reduceSub, Int.reduceMul, Int.reduceNeg, Int.reduceAdd, Int.reduceLE, Int.reduceLT, Int.reduceEq, Int.reduceNe, true_and, and_true, true_or, and_self, ne_eq, not_false_eq_true, Bool.false_eq_true, reduceCtorEq, rd_l1, rd_l2, rd_l3, rd_l4, rd_l5, rd_l6, rd_l7, rd_l8, rd_l9, SB, rd_ge, i2b_2, false_and, and_false, not_true_eq_false, l66_0, l66_15, l66_33, l66_58, l66_64, l66_101, l66_119, l66_152, l66_158, l66_166, l66_184, l66_199, l66_270, l66_276, l66_289, l66_295, l66_298, l66_345, s66_0, s66_15, s66_33, s66_58, s66_64, s66_101, s66_119, s66_152, s66_158, s66_166, s66_184, s66_199, s66_270, s66_276, s66_289, s66_295, s66_298, s66_345, zC_18, zC_20, zC_21, zC_22, zC_23, zC_25, zC_26, zC_253, zC_254, zC_256, zC_257, zC_259, zC_260, zC_262, zC_263, zC_265, zC_266, zC_268, zC_269, zC_271, zC_272, zC_274, zC_275, zC_278, zC_279, zC_280, zC_281, zC_282, zC_284, zC_285, zC_287, zC_288, zC_290, zC_291, zC_293, zC_294, zC_296, zC_297, zC_299, zC_300, zC_302, zC_303, zC_304, zC_305, zC_306, zC_307, zC_308, zC_309, zC_310, zC_311, zC_312, zC_315, zC_316, zC_317, zC_319, zC_320, zC_321, zC_323, zC_324, zC_325, zC_327, zC_328, zC_329, zC_331, zC_332, zC_333, zC_335, zC_336, zC_337, zC_339, zC_340, zC_341, zC_343, zC_344, zC_345, zC_347, zC_348, zC_349, zC_350, zC_351, zC_352, zC_353, zC_354, zC_355, zC_356, zC_357, zC_358, zC_359, zC_361, zC_362, zC_363, zC_364, zC_367, zC_368, zC_369, zC_370, zC_371, zC_372, zC_373, zC_374, zC_375, zC_376, zC_378, zC_380, zC_381, zC_383, zC_384, zC_386, zC_387, zC_389, zC_390, zC_391, zC_392, zC_393, zC_394, zC_395, zC_396, zC_397, zC_398, zC_400, zC_402, zC_403, zC_405, zC_407, zC_409, zC_411, zC_413, zC_415, zC_417, zC_420, zC_421, zC_422, zC_423, zC_424, zC_425, zC_427, zC_429, zC_431, zC_433, zC_436, zC_437, zC_438, zC_439, zC_440, zC_441, zC_442, zC_443, zC_444, zC_445, zC_447, zC_448, zC_450, zC_451, zC_453, zC_454, zC_455, zC_456, zC_457, zC_458, zC_460, zC_461, zC_462, zC_463, zC_464, zC_465, zC_466, zC_467, zC_468, zC_469, zC_471, zC_473, zC_474, zC_476, zC_477, zC_478, zC_479, zC_480, zC_481, zC_482, zC_483, zC_484, zC_485, zC_487, zC_489, zC_490, zC_491, zC_493, zC_495, zC_497, zC_499]
    rw [d1]
    refine J_andL (by omega) (J_posL i1 ?_)
    rw [e2, z16.2]
    repeat (first | refine J_andL (by first | omega | (constructor <;> omega)) ?_ | refine J_andR (by first | omega | (constructor <;> omega)) ?_ | refine J_posL (by first | omega | (constructor <;> omega)) ?_ | refine J_negL (by first | omega | (constructor <;> omega)) ?_ | refine J_posR (by first | omega | (constructor <;> omega)) ?_ | refine J_negR (by first | omega | (constructor <;> omega)) ?_)
    refine J_LI ev2 ?_
    repeat (first | refine J_andL (by first | omega | (constructor <;> omega)) ?_ | refine J_andR (by first | omega | (constructor <;> omega)) ?_ | refine J_posL (by first | omega | (constructor <;> omega)) ?_ | refine J_negL (by first | omega | (constructor <;> omega)) ?_ | refine J_posR (by first | omega | (constructor <;> omega)) ?_ | refine J_negR (by first | omega | (constructor <;> omega)) ?_)
    rw [if_neg (show ¬ 252 + 6 * p + 2 = 18 by omega), f2 (252 + 6 * p + 2) _ (by omega) (by omega) (by omega), e2, if_neg (show ¬ (28 + 2 * kk (16 * p + i) = 18 ∧ 1 = i) by omega), f2 (28 + 2 * kk (16 * p + i)) _ (by omega) (by omega) (by omega), e4]
    rcases alt with ⟨q1, q2, q3⟩ | ⟨q1, q2, q3, q4⟩
    · have eL := snl_o (ac := acf M c) (bo := kk) (N := 16 * p + i) (by omega) q1
      rw [show 16 * p + i + 1 = 16 * p + (i + 1) by omega] at eL
      have := ih (st h2 18 i (h2 22 s)) (some (vI (h1 17 4))) (some (vI s)) (by
        rw [eL]
        refine ⟨by rw [cells 17 (by omega), q2]; exact S.1, fun j hj => ?_⟩
        rw [cells 21 (by omega), cells 22 (by omega), q2]
        exact S.2 j hj) O3 G3 (fun j a b => by
        by_cases e : j = i
        · rw [e, st_eq, es, eL]; exact ⟨q1, rfl⟩
        · rw [st_nj e, f2 18 _ (by omega) (by omega) (by omega), eL]; exact P j a (by omega))
      rw [eL] at this
      refine J_negL (by rw [q2]; omega) ?_
      repeat (first | refine J_andL (by first | omega | (constructor <;> omega)) ?_ | refine J_andR (by first | omega | (constructor <;> omega)) ?_ | refine J_posL (by first | omega | (constructor <;> omega)) ?_ | refine J_negL (by first | omega | (constructor <;> omega)) ?_ | refine J_posR (by first | omega | (constructor <;> omega)) ?_ | refine J_negR (by first | omega | (constructor <;> omega)) ?_)
      exact this
    · have eL := snl_y (ac := acf M c) (bo := kk) (N := 16 * p + i) (by omega) act q1
      rw [show 16 * p + i + 1 = 16 * p + (i + 1) by omega] at eL
      have := ih (st h2 18 i (h2 22 s)) (some (vI (h1 17 4))) (some (vI s)) (by
        rw [eL]
        refine ⟨by rw [cells 17 (by omega)]; exact q2.1, fun j hj => ?_⟩
        rw [cells 21 (by omega), cells 22 (by omega)]
        exact q2.2 j hj) O3 G3 (fun j a b => by
        by_cases e : j = i
        · rw [e, st_eq, es]
          refine ⟨mem', ?_⟩
          rw [eL, plb_l q1 [], plb_n q1]
        · rw [st_nj e, f2 18 _ (by omega) (by omega) (by omega), eL]
          have := P j a (by omega)
          exact ⟨List.mem_append.2 (Or.inl this.1), by rw [plb_o this.1]; exact this.2⟩)
      rw [eL, pls_a, ← Int.add_assoc] at this
      rw [eL, pls_a] at pr2
      refine J_posL (by omega) ?_
      repeat (first | refine J_andL (by first | omega | (constructor <;> omega)) ?_ | refine J_andR (by first | omega | (constructor <;> omega)) ?_ | refine J_posL (by first | omega | (constructor <;> omega)) ?_ | refine J_negL (by first | omega | (constructor <;> omega)) ?_ | refine J_posR (by first | omega | (constructor <;> omega)) ?_ | refine J_negR (by first | omega | (constructor <;> omega)) ?_)
      have ep := c_padded (n := n) (h := st h2 18 i (h2 22 s)) (x := zk (kk (16 * p + i))) (by omega)
      refine J_LI ep ?_
      repeat (first | refine J_andL (by first | omega | (constructor <;> omega)) ?_ | refine J_andR (by first | omega | (constructor <;> omega)) ?_ | refine J_posL (by first | omega | (constructor <;> omega)) ?_ | refine J_negL (by first | omega | (constructor <;> omega)) ?_ | refine J_posR (by first | omega | (constructor <;> omega)) ?_ | refine J_negR (by first | omega | (constructor <;> omega)) ?_)
      exact this
  · intro h1 o8 o9 S O G P
    obtain ⟨d1, d2, d3⟩ := FT G
    refine J_impL (fun Q hq => blk (md := true) [15, 101, 166, 199, 298] 99 GC FC rfl k66 hq) ?_
    simp -implicitDefEqProofs only [r_iconst, r_bipush, r_sipush, r_ldc, r_ldc_w, r_lconst, r_ldc2_w, r_aconst_null, r_iload, r_iload_n, r_lload, r_lload_n, r_aload, r_aload_n, r_istore, r_istore_n, r_lstore, r_lstore_n, r_astore, r_astore_n, r_iinc, r_iadd, r_iaddW, r_isub, r_isubW, r_imul, r_imulW, r_ladd, r_laddW, r_lsub, r_lsubW, r_lmul, r_lmulW, r_iand, r_ior, r_ishl, r_ishr, r_iushr, r_land, r_lor, r_lshl, r_lshr, r_lushr, r_idiv, r_irem, r_ldiv, r_lrem, r_lcmp, r_ineg, r_i2l, r_l2i, r_i2b, r_i2s, r_i2c, r_dup, r_pop, r_dup_x1, r_dup_x2, r_dup2, r_dup2L, r_icmp_eq, r_icmp_ne, r_icmp_lt, r_icmp_ge, r_icmp_gt, r_icmp_le, r_if_eq, r_if_ne, r_if_lt, r_if_ge, r_if_gt, r_if_le, r_acmp_eq, r_acmp_ne, r_ifnull, r_ifnonnull, r_goto, r_nop, r_tsw, r_lsw, r_getfield, r_getfinal, r_putfield, r_getstaticL, r_getstaticR, r_iaload, r_baload, r_saload, r_laload, r_aaload, r_aaloadM, r_iastore, r_bastore, r_zastore, r_sastore, r_lastore, r_aastore, r_alen, r_new, r_newarray, r_anewarray, r_invV, r_invI, r_objI, r_invS, r_acp, r_ireturn, r_zreturn, r_lreturn, r_return, r_areturn, r_athrow, ↓e_pI, ↓e_pL, ↓e_pR, ↓e_lg0, ↓e_lg1, ↓e_tk0, ↓e_tkI0, ↓e_tkI1, ↓e_tkI2, ↓e_tkI3, ↓e_tkI4, ↓e_tkL, ↓e_tkR0_0, ↓e_tkR0_1, ↓e_tkR1_0, ↓e_tkR1_1, ↓e_tkR2_0, ↓e_tkR2_1, ↓e_tkR3_0, ↓e_tkR3_1, ↓e_tkR4_0, ↓e_tkR4_1, ↓e_tkR5_0, ↓e_tkR5_1, ↓e_tkR6_0, ↓e_tkR6_1, ↓e_tkR7_0, ↓e_tkR7_1, ↓e_tkR8_0, ↓e_tkR8_1, ↓e_tkR9_0, ↓e_tkR9_1, ↓e_tkR10_0, ↓e_tkR10_1, ↓e_tkR11_0, ↓e_tkR11_1, ↓e_tkR12_0, ↓e_tkR12_1, ↓e_tkR13_0, ↓e_tkR13_1, ↓e_tkR14_0, ↓e_tkR14_1, ↓e_tkR15_0, ↓e_tkR15_1, ↓e_tkR16_0, ↓e_tkR16_1, ↓e_tkR17_0, ↓e_tkR17_1, ↓e_tkR39_0, ↓e_tkR39_1, ↓e_tkR40_0, ↓e_tkR40_1, ↓e_tkR41_0, ↓e_tkR41_1, ↓e_tkR42_0, ↓e_tkR42_1, ↓e_tkR43_0, ↓e_tkR43_1, ↓e_tkR44_0, ↓e_tkR44_1, ↓e_tkR45_0, ↓e_tkR45_1, ↓e_tkR46_0, ↓e_tkR46_1, ↓e_tkR47_0, ↓e_tkR47_1, ↓e_tkR48_0, ↓e_tkR48_1, ↓e_pv0, ↓e_pv1, ↓e_pv2, ↓e_pv3, ↓e_pv5, ↓e_pvR, ↓e_tsw0, ↓e_tsw1, ↓e_lsw0, ↓e_lsw1, e_kq100, e_kq0, e_kq3, e_kq5, e_kqR0, e_kqR1, e_kqR2, e_kqR3, e_kqR4, e_kqR5, e_kqR6, e_kqR7, e_kqR8, e_kqR9, e_kqR10, e_kqR11, e_kqR12, e_kqR13, e_kqR14, e_kqR15, e_kqR16, e_kqR17, e_kqR39, e_kqR40, e_kqR41, e_kqR42, e_kqR43, e_kqR44, e_kqR45, e_kqR46, e_kqR47, e_kqR48, e_st0I, e_st0R, e_st0L, e_st1N, e_st1I, e_st1L, e_st1R, e_st2, e_wd0, e_wdI, e_wdL, e_wdR, e_c1I, e_c1R, e_gv0, e_gv1, e_gv2, e_gv3, e_gv4, e_gv5, e_gvR0, e_gvR1, e_gvR2, e_gvR3, e_gvR4, e_gvR5, e_gvR6, e_gvR7, e_gvR8, e_gvR9, e_gvR10, e_gvR11, e_gvR12, e_gvR13, e_gvR14, e_gvR15, e_gvR16, e_gvR17, e_gvR39, e_gvR40, e_gvR41, e_gvR42, e_gvR43, e_gvR44, e_gvR45, e_gvR46, e_gvR47, e_gvR48, e_kX0, e_kX1, e_kVv, e_kVx, e_kIv, e_kIx, e_kLv, e_kLx, e_kRv, e_kRx, e_thr, e_lk1, e_ic0, e_ic1, e_jm, st_ap, clr_ap, e_lceq, e_lclt, e_lcgt, nn, ↓reduceIte, Nat.reduceDiv, Nat.reduceMod, Nat.reduceMul, Nat.reduceAdd, Nat.reduceEqDiff, Nat.reduceLeDiff, Int.reduceNatCast, Int.cast_ofNat_Int, Int.reduceSub, Int.reduceMul, Int.reduceNeg, Int.reduceAdd, Int.reduceLE, Int.reduceLT, Int.reduceEq, Int.reduceNe, true_and, and_true, true_or, and_self, ne_eq, not_false_eq_true, Bool.false_eq_true, reduceCtorEq, rd_l1, rd_l2, rd_l3, rd_l4, rd_l5, rd_l6, rd_l7, rd_l8, rd_l9, SB, rd_ge, i2b_2, false_and, and_false, not_true_eq_false, l66_0, l66_15, l66_33, l66_58, l66_64, l66_101, l66_119, l66_152, l66_158, l66_166, l66_184, l66_199, l66_270, l66_276, l66_289, l66_295, l66_298, l66_345, s66_0, s66_15, s66_33, s66_58, s66_64, s66_101, s66_119, s66_152, s66_158, s66_166, s66_184, s66_199, s66_270, s66_276, s66_289, s66_295, s66_298, s66_345, zC_18, zC_20, zC_21, zC_22, zC_23, zC_25, zC_26, zC_253, zC_254, zC_256, zC_257, zC_259, zC_260, zC_262, zC_263, zC_265, zC_266, zC_268, zC_269, zC_271, zC_272, zC_274, zC_275, zC_278, zC_279, zC_280, zC_281, zC_282, zC_284, zC_285, zC_287, zC_288, zC_290, zC_291, zC_293, zC_294, zC_296, zC_297, zC_299, zC_300, zC_302, zC_303, zC_304, zC_305, zC_306, zC_307, zC_308, zC_309, zC_310, zC_311, zC_312, zC_315, zC_316, zC_317, zC_319, zC_320, zC_321, zC_323, zC_324, zC_325, zC_327, zC_328, zC_329, zC_331, zC_332, zC_333, zC_335, zC_336, zC_337, zC_339, zC_340, zC_341, zC_343, zC_344, zC_345, zC_347, zC_348, zC_349, zC_350, zC_351, zC_352, zC_353, zC_354, zC_355, zC_356, zC_357, zC_358, zC_359, zC_361, zC_362, zC_363, zC_364, zC_367, zC_368, zC_369, zC_370, zC_371, zC_372, zC_373, zC_374, zC_375, zC_376, zC_378, zC_380, zC_381, zC_383, zC_384, zC_386, zC_387, zC_389, zC_390, zC_391, zC_392, zC_393, zC_394, zC_395, zC_396, zC_397, zC_398, zC_400, zC_402, zC_403, zC_405, zC_407, zC_409, zC_411, zC_413, zC_415, zC_417, zC_420, zC_421, zC_422, zC_423, zC_424, zC_425, zC_427, zC_429, zC_431, zC_433, zC_436, zC_437, zC_438, zC_439, zC_440, zC_441, zC_442, zC_443, zC_444, zC_445, zC_447, zC_448, zC_450, zC_451, zC_453, zC_454, zC_455, zC_456, zC_457, zC_458, zC_460, zC_461, zC_462, zC_463, zC_464, zC_465, zC_466, zC_467, zC_468, zC_469, zC_471, zC_473, zC_474, zC_476, zC_477, zC_478, zC_479, zC_480, zC_481, zC_482, zC_483, zC_484, zC_485, zC_487, zC_489, zC_490, zC_491, zC_493, zC_495, zC_497, zC_499]
    rw [d1]
    refine J_andL (by omega) (J_negL (by omega) ?_)
    have e16 := snl_p (M := M) (p := p) (c := c) (bo := kk) p0.1 (fun _ => cr)
    rw [if_pos mb] at e16
    refine c_dir (fl := fl) (l := fun i => base + plb zk (snl (acf M c) kk 64) (kk (16 * p + i))) p0 (FT G) (by rw [fe G _ _ (by omega)]; exact efl) (fun i a b => ?_) O ?_
    · have := P i a b
      rw [this.2, plb_s (N := (16 * p + c p).toNat) (M := 64) (by omega) this.1]
    · intro h2 O2 G2
      try simp only [e_kVv]
      repeat (first | refine J_andL (by first | omega | (constructor <;> omega)) ?_ | refine J_andR (by first | omega | (constructor <;> omega)) ?_ | refine J_posL (by first | omega | (constructor <;> omega)) ?_ | refine J_negL (by first | omega | (constructor <;> omega)) ?_ | refine J_posR (by first | omega | (constructor <;> omega)) ?_ | refine J_negR (by first | omega | (constructor <;> omega)) ?_)
      have c2 : ∀ a j, a ≠ 19 → a ≠ 20 → h2 a j = h1 a j := fun a j x y => G2 a j (by unfold boF; omega)
      have G3 : Fz sfC h0 h2 := fun a j g => by
        have g' : ¬ ((18 ≤ a ∧ a ≤ 22) ∨ (a = 17 ∧ j = 4)) := g
        rw [c2 _ _ (by omega) (by omega)]; exact G a j g
      have eb : dirL fl (c p) t (bsh h1 t (fun i => kk (16 * p + i)) (fun i => zk (kk (16 * p + i)))) (fun i => base + plb zk (snl (acf M c) kk 64) (kk (16 * p + i))) (fun i => zk (kk (16 * p + i))) = dirL fl (c p) t (bsh h0 t (fun i => kk (16 * p + i)) (fun i => zk (kk (16 * p + i)))) (fun i => base + plb zk (snl (acf M c) kk 64) (kk (16 * p + i))) (fun i => zk (kk (16 * p + i))) := dirL_c (fun i a b => ⟨by
        unfold bsh
        have k3 : 0 ≤ kk (16 * p + i) ∧ kk (16 * p + i) < 112 := (d3 i a b).2.2.1
        have : (fun j => h1 (29 + 2 * kk (16 * p + i)) (0 + j)) = fun j => h0 (29 + 2 * kk (16 * p + i)) (0 + j) := funext fun j => fe G _ _ (by omega)
        rw [this], rfl⟩)
      rw [eb] at O2
      rw [← e16]
      refine fin h2 _ _ _ _ ?_ O2 G3
      rw [e16]
      refine ⟨by rw [c2 _ _ (by omega) (by omega)]; exact S.1, fun j hj => ?_⟩
      rw [c2 _ _ (by omega) (by omega), c2 _ _ (by omega) (by omega)]
      exact S.2 j hj
end
