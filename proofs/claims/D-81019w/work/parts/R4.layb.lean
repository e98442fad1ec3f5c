set_option maxRecDepth 100000
section
variable {A B : Qt → Prop} {Φ : Out → Int → Mem → Out → Int → Mem → Prop} {KL KM : Qt → Qt} {n m : Int} {h w : Mem}
theorem RB_t {h1 w1 : Mem} (R : RB h w) (fh : ∀ a j, a = 17 ∨ (459 ≤ a ∧ a ≤ 491) → h1 a j = h a j) (fw : ∀ a j, (84 ≤ a ∧ a ≤ 95) ∨ (a = 17 ∧ 98 ≤ j ∧ j ≤ 104) → w1 a j = w a j) : RB h1 w1 := by
  obtain ⟨s, Rp, Re, Rq, Rc, Rb⟩ := R
  refine ⟨?_, ?_, ?_, ?_, ?_, ?_⟩
  · unfold RBs at s ⊢
    rw [fh 459 3 (by omega), fw 17 99 (by omega), fh 17 18 (by omega), fw 17 100 (by omega), fw 17 98 (by omega), fh 459 0 (by omega), fh 475 3 (by omega), fw 17 101 (by omega), fh 472 1 (by omega), fw 17 102 (by omega), fh 459 8 (by omega), fw 17 103 (by omega), fh 459 2 (by omega), fw 17 104 (by omega)]
    exact s
  · intro i i0 i1
    rw [fh 459 3 (by omega)] at i1
    rw [fh 461 _ (by omega), fh 462 _ (by omega), fh 463 _ (by omega), fw 86 _ (by omega), fw 87 _ (by omega), fw 88 _ (by omega)]
    exact Rp i i0 i1
  · refine ⟨fun i i0 i1 => ?_, fun q => ?_⟩
    · rw [fh 459 0 (by omega)] at i1
      rw [fh 464 _ (by omega), fw 85 _ (by omega)]
      exact Re.1 i i0 i1
    · rw [fh 17 18 (by omega)] at q
      rw [fw 85 _ (by omega), fh 459 0 (by omega), fh 459 3 (by omega)]
      exact Re.2 q
  · intro k k0 k1
    rw [fh 475 3 (by omega)] at k1
    have r := Rq k k0 k1
    rw [fh 481 _ (by omega), fw 89 _ (by omega), fh 482 _ (by omega), fw 90 _ (by omega), fh 483 _ (by omega), fw 91 _ (by omega), fh 484 _ (by omega), fw 92 _ (by omega), fw 93 _ (by omega)]
    refine ⟨r.1, r.2.1, r.2.2.1, r.2.2.2.1, r.2.2.2.2.1, r.2.2.2.2.2.1, fun i a b => ?_⟩
    rw [fh 485 _ (by omega), fw 94 _ (by omega)]
    exact r.2.2.2.2.2.2 i a b
  · intro i i0 i1
    rw [fh 472 1 (by omega)] at i1
    rw [fh 473 _ (by omega), fw 95 _ (by omega)]
    exact Rc i i0 i1
  · intro q k k0 k1
    rw [fh 459 2 (by omega)] at q
    rw [fh 491 _ (by omega), fw 84 _ (by omega)]
    exact Rb q k k0 k1
/-- the bench, and loose bodies k1, k2 -/
def l4C (k1 k2 a j : Int) : Prop := a = 28 + 2 * k1 ∨ a = 29 + 2 * k1 ∨ a = 28 + 2 * k2 ∨ a = 29 + 2 * k2 ∨ a = 460 ∨ (474 ≤ a ∧ a ≤ 476 ∧ (a = 475 → j = 0)) ∨ a = 481 ∨ (486 ≤ a ∧ a ≤ 490)
/-- what has been laid: k1, k2 by the house; R by the model -/
def LYD (k1 k2 al fm Ng g x4 nnn fr to : Int) (fl fg : Int → Int) (R : List Int) (h w hk h1 w1 : Mem) : Prop := ((∀ p, 0 ≤ p → p < 4 → KPf (252 + 6 * p) (255 + 6 * p) h hk) ∧ Fz olC h hk ∧ Fz (l4C k1 k2) hk h1 ∧ Fz bnM w w1) ∧ ((0 ≤ k1 ∧ k1 < 112) ∧ (0 ≤ k2 ∧ k2 < 112) ∧ k1 ≠ k2 ∧ h (28 + 2 * k1) 3 = 0 ∧ h (28 + 2 * k2) 3 = 0 ∧ h1 (28 + 2 * k1) 3 = 1 ∧ h1 (28 + 2 * k2) 3 = 1) ∧ BG h1 (28 + 2 * k1) 12000 (slc fg 0 fr.toNat ++ R ++ slc fg to (Ng - to).toNat) ∧ (∃ sv, BL h1 (28 + 2 * k2) (lcL fm sv (nnn + 1).toNat) ∧ ∀ i, 0 ≤ i → i ≤ nnn → Ng - (to - fr) + R.length ≤ 12000 → sv i = mvv fm fl g x4 (R.length - (to - fr)) (Ng - (to - fr) + R.length) i) ∧ OL w1 R ∧ byt R ∧ (R.length : Int) ≤ 4000 ∧ RB h1 w1
/-- both lay: the house's new glyf and loca, the model's record -/
theorem p_layB {p g x3 nnn kl kg al fm N Ng : Int} {fl fg : Int → Int} {β : Int → Int} {X : Qt → Int → Int → Mem → Prop} (RS : RSB β h w) (V : LVW kl kg al fm N Ng fl fg h) (dl : bsy h kl) (dg : bsy h kg) (Rb : RB h w) (no : h 17 18 = 0) (one : ¬ (0 < h 459 3 ∧ 0 < h 475 3)) (g0 : 0 ≤ g) (gn : (g < al ∧ nnn = al) ∨ (g = al ∧ nnn = al + 1)) (n64 : nnn ≤ 64)
    (fin : ∀ (hk h1 w1 : Mem) (k1 k2 : Int) (R : List Int), LYD k1 k2 al fm Ng g (if g < al then 0 else 1) nnn (lov fm fl g) (if g < al then lov fm fl (g + 1) else lov fm fl g) fl fg R h w hk h1 w1 → J2 (fun Q => T_at gC 98 109 [some (vR 1 17), some (vI p), some (vI g), some (vI x3), some (vI nnn), some (vR 2 (28 + 2 * k1)), some (vR 2 (28 + 2 * k2)), some (vI nnn), none, none, none] [] n h1 Q) (fun Q => KM Q (.inl none) m w1) Φ) :
    J2 (fun Q => T gC 473 [vR 5 24] n h (kV (thr Q) fun n h => T gC 474 [vR 5 24] n h (kR 2 (thr Q) fun a_4 n h => T gC 474 [vR 5 24] n h (kR 2 (thr Q) fun a_5 n h => T gC 178 [vR 2 a_5, vI 0, vI (h 365 2)] n h (kV (thr Q) fun n h => T_at gC 98 109 [some (vR 1 17), some (vI p), some (vI g), some (vI x3), some (vI nnn), some (vR 2 a_4), some (vR 2 a_5), some (vI 0), none, none, none] [] n h Q))))) (fun Q => T gM 404 [vR 33 17] m w (kV (X Q) fun n h => T gM 406 [vR 33 17] n (st h 17 96 0) (KM Q))) Φ := by
  obtain ⟨K, Bd, FTs, b01, us, m1, m2, sm, tg⟩ := id RS
  obtain ⟨v1, v2, v3, v4, v5, v6, v7, v8⟩ := id V
  refine c_keep K (fun p a b => ?_) ?_
  · have := FTs p a b
    unfold FNT at this
    rw [FO_4 b] at this
    omega
  intro hk kp Fk
  simp only [e_kVv]
  have ek : ∀ a j, a < 252 ∨ 275 < a → hk a j = h a j := fun a j g => Fk a j (by unfold olC; omega)
  have sm1 : smi (fun k => hk (28 + 2 * k) 3) 112 ≤ 40 := by rw [smi_c (g := fun k => h (28 + 2 * k) 3) (fun k a b => ek _ _ (by omega)), sm]; omega
  have bk : ∀ k, 0 ≤ k → k < 112 → hk (28 + 2 * k) 3 = 0 ∨ hk (28 + 2 * k) 3 = 1 := fun k a b => by rw [ek _ _ (by omega)]; exact b01 k a b
  obtain ⟨k1, k10, z1, ev1⟩ := c_fresh (n := n) (h := hk) (SKC_t K (fun a j x y => ek _ _ (by omega))) bk (by omega)
  refine J_LR ev1 ?_
  have H2 : Fz (fun a j => a = 28 + 2 * k1 ∧ (j = 1 ∨ j = 2 ∨ j = 3)) hk (st (st (st hk (28 + 2 * k1) 3 1) (28 + 2 * k1) 1 0) (28 + 2 * k1) 2 0) := Fz_st (Fz_st (Fz_st Fz_0 (by omega)) (by omega)) (by omega)
  have a1 : (st (st (st hk (28 + 2 * k1) 3 1) (28 + 2 * k1) 1 0) (28 + 2 * k1) 2 0) (28 + 2 * k1) 3 = 1 := by rw [st_nj (by omega), st_nj (by omega), st_eq]
  have a2 : (st (st (st hk (28 + 2 * k1) 3 1) (28 + 2 * k1) 1 0) (28 + 2 * k1) 2 0) (28 + 2 * k1) 1 = 0 := by rw [st_nj (by omega), st_eq]
  have a3 : (st (st (st hk (28 + 2 * k1) 3 1) (28 + 2 * k1) 1 0) (28 + 2 * k1) 2 0) (28 + 2 * k1) 2 = 0 := by rw [st_eq]
  revert H2 a1 a2 a3
  generalize st (st (st hk (28 + 2 * k1) 3 1) (28 + 2 * k1) 1 0) (28 + 2 * k1) 2 0 = h2
  intro H2 a1 a2 a3
  have sm2 : smi (fun k => h2 (28 + 2 * k) 3) 112 ≤ 41 := by
    rw [smi_c (g := ufn (fun k => hk (28 + 2 * k) 3) k1 1) (fun k' a _ => by
      unfold ufn
      by_cases e : k' = k1
      · rw [if_pos e, e]; exact a1
      · rw [if_neg e]; exact H2 _ _ (by omega)), smi_u k10.1 k10.2]
    omega
  obtain ⟨k2, k20, z2, ev2⟩ := c_fresh (n := n) (h := h2) (SKC_t K (fun a j x y => by rw [H2 _ _ (by omega)]; exact ek _ _ (by omega))) (fun k a b => by
    by_cases e : k = k1
    · rw [e]; exact Or.inr a1
    · rw [H2 _ _ (by omega)]; exact bk k a b) (by omega)
  have n12 : k1 ≠ k2 := fun e => by rw [← e] at z2; omega
  rw [H2 _ _ (by omega)] at z2
  refine J_LR ev2 ?_
  have H3 : Fz (fun a j => a = 28 + 2 * k2 ∧ (j = 1 ∨ j = 2 ∨ j = 3)) h2 (st (st (st h2 (28 + 2 * k2) 3 1) (28 + 2 * k2) 1 0) (28 + 2 * k2) 2 0) := Fz_st (Fz_st (Fz_st Fz_0 (by omega)) (by omega)) (by omega)
  have c1 : (st (st (st h2 (28 + 2 * k2) 3 1) (28 + 2 * k2) 1 0) (28 + 2 * k2) 2 0) (28 + 2 * k2) 3 = 1 := by rw [st_nj (by omega), st_nj (by omega), st_eq]
  have c2 : (st (st (st h2 (28 + 2 * k2) 3 1) (28 + 2 * k2) 1 0) (28 + 2 * k2) 2 0) (28 + 2 * k2) 1 = 0 := by rw [st_nj (by omega), st_eq]
  revert H3 c1 c2
  generalize st (st (st h2 (28 + 2 * k2) 3 1) (28 + 2 * k2) 1 0) (28 + 2 * k2) 2 0 = h3
  intro H3 c1 c2
  have zz1 := bsz k10
  have zz2 := bsz k20
  have nb1 : k1 ≠ kl ∧ k1 ≠ kg := ⟨fun e => by have := dl.2.2; rw [← e, ← ek _ _ (by omega)] at this; omega, fun e => by have := dg.2.2; rw [← e, ← ek _ _ (by omega)] at this; omega⟩
  have nb2 : k2 ≠ kl ∧ k2 ≠ kg := ⟨fun e => by have := dl.2.2; rw [← e, ← ek _ _ (by omega)] at this; omega, fun e => by have := dg.2.2; rw [← e, ← ek _ _ (by omega)] at this; omega⟩
  have e3 : h3 365 2 = fm := by rw [H3 _ _ (by omega), H2 _ _ (by omega), ek _ _ (by omega)]; exact v2.2.2.1
  rw [e3]
  obtain ⟨h4, e4, B4, F4⟩ := c_178 (n := n) (h := h3) (o := 28 + 2 * k2) (v := 0) (x := fm) (M := []) (by omega) (by rw [show 28 + 2 * k2 + 1 = 29 + 2 * k2 by omega, zz2]; omega) ⟨c2, fun i hi => absurd hi (Nat.not_lt_zero i)⟩ (by rw [show 28 + 2 * k2 + 1 = 29 + 2 * k2 by omega, zz2]; decide) (by omega)
  refine J_LV e4 ?_
  have E4 : ∀ a j, ¬ (a = 28 + 2 * k1 ∧ (j = 1 ∨ j = 2 ∨ j = 3)) → ¬ (a = 28 + 2 * k2 ∧ (j = 1 ∨ j = 2 ∨ j = 3)) → a ≠ 29 + 2 * k2 → h4 a j = hk a j := fun a j x y z => by rw [F4 _ _ (by unfold bdC; omega), H3 _ _ (by omega), H2 _ _ (by omega)]
  have E41 : ∀ j, h4 (28 + 2 * k1) j = h2 (28 + 2 * k1) j := fun j => by rw [F4 _ _ (by unfold bdC; omega), H3 _ _ (by omega)]
  have E43 : h4 (28 + 2 * k2) 3 = 1 := by rw [F4 _ _ (by unfold bdC; omega)]; exact c1
  have V4 : LVW kl kg al fm N Ng fl fg h4 := LVW_t V nb1 nb2 (fun a j x1 x2 x3 x4 x5 => by rw [E4 _ _ (by omega) (by omega) (by omega)]; exact ek _ _ (by omega)) k10 k20
  have G4 : BG h4 (28 + 2 * k1) 12000 [] := Or.inl ⟨by decide, by rw [E41]; exact a3, by rw [E41]; exact a2, fun i hi => absurd hi (Nat.not_lt_zero i)⟩
  refine c_lsts k10 k20 n12 nb1 nb2 (a := 0) (z := g) (by omega) g0 (by omega) (by omega) (fun k x y => by omega) (sv := fun _ => 0) V4 G4 (by
    rw [show ((0 : Int) + 1).toNat = 0 + 1 from rfl, lcL, lcL]; exact B4) ?_
  intro h5 sv V5 G5 B5 S1 S2 F5
  have lz : lov fm fl 0 = 0 := v6.1
  have rg := lok_r v6 v3.1 (k := g) g0 (by omega)
  rw [lz, show lov fm fl g - 0 = lov fm fl g by omega, List.nil_append] at G5
  have F5' : ∀ a j, ¬ (a = 28 + 2 * k1 ∧ (j = 1 ∨ j = 2)) → a ≠ 29 + 2 * k1 → ¬ (a = 28 + 2 * k2 ∧ j = 1) → a ≠ 29 + 2 * k2 → h5 a j = h4 a j := fun a j x y z t => F5 a j (by unfold l2C; omega)
  have f5 : ∀ a j, 275 < a ∨ a < 28 → h5 a j = h a j := fun a j x => by rw [F5' _ _ (by omega) (by omega) (by omega) (by omega), E4 _ _ (by omega) (by omega) (by omega)]; exact ek _ _ (by omega)
  refine J_impL (fun Q hq => blk (md := true) [109] 99 GC FC rfl k98 hq) ?_
  simp -implicitDefEqProofs only [r_iconst, r_bipush, r_sipush, r_ldc, r_ldc_w, r_lconst, r_ldc2_w, r_aconst_null, r_iload, r_iload_n, r_lload, r_lload_n, r_aload, r_aload_n, r_istore, r_istore_n, r_lstore, r_lstore_n, r_astore, r_astore_n, r_iinc, r_iadd, r_iaddW, r_isub, r_isubW, r_imul, r_imulW, r_ladd, r_laddW, r_lsub, r_lsubW, r_lmul, r_lmulW, r_iand, r_ior, r_ishl, r_ishr, r_iushr, r_land, r_lor, r_lshl, r_lshr, r_lushr, r_idiv, r_irem, r_ldiv, r_lrem, r_lcmp, r_ineg, r_i2l, r_l2i, r_i2b, r_i2s, r_i2c, r_dup, r_pop, r_dup_x1, r_dup_x2, r_dup2, r_dup2L, r_icmp_eq, r_icmp_ne, r_icmp_lt, r_icmp_ge, r_icmp_gt, r_icmp_le, r_if_eq, r_if_ne, r_if_lt, r_if_ge, r_if_gt, r_if_le, r_acmp_eq, r_acmp_ne, r_ifnull, r_ifnonnull, r_goto, r_nop, r_tsw, r_lsw, r_getfield, r_getfinal, r_putfield, r_getstaticL, r_getstaticR, r_iaload, r_baload, r_saload, r_laload, r_aaload, r_aaloadM, r_iastore, r_bastore, r_zastore, r_sastore, r_lastore, r_aastore, r_alen, r_new, r_newarray, r_anewarray, r_invV, r_invI, r_objI, r_invS, r_acp, r_ireturn, r_zreturn, r_lreturn, r_return, r_areturn, r_athrow, ↓e_pI, ↓e_pL, ↓e_pR, ↓e_lg0, ↓e_lg1, ↓e_tk0, ↓e_tkI0, ↓e_tkI1, ↓e_tkI2, ↓e_tkI3, ↓e_tkI4, ↓e_tkL, ↓e_tkR0_0, ↓e_tkR0_1, ↓e_tkR1_0, ↓e_tkR1_1, ↓e_tkR2_0, ↓e_tkR2_1, ↓e_tkR3_0, ↓e_tkR3_1, ↓e_tkR4_0, ↓e_tkR4_1, ↓e_tkR5_0, ↓e_tkR5_1, ↓e_tkR6_0, ↓e_tkR6_1, ↓e_tkR7_0, ↓e_tkR7_1, ↓e_tkR8_0, ↓e_tkR8_1, ↓e_tkR9_0, ↓e_tkR9_1, ↓e_tkR10_0, ↓e_tkR10_1, ↓e_tkR11_0, ↓e_tkR11_1, ↓e_tkR12_0, ↓e_tkR12_1, ↓e_tkR13_0, ↓e_tkR13_1, ↓e_tkR14_0, ↓e_tkR14_1, ↓e_tkR15_0, ↓e_tkR15_1, ↓e_tkR16_0, ↓e_tkR16_1, ↓e_tkR17_0, ↓e_tkR17_1, ↓e_tkR39_0, ↓e_tkR39_1, ↓e_tkR40_0, ↓e_tkR40_1, ↓e_tkR41_0, ↓e_tkR41_1, ↓e_tkR42_0, ↓e_tkR42_1, ↓e_tkR43_0, ↓e_tkR43_1, ↓e_tkR44_0, ↓e_tkR44_1, ↓e_tkR45_0, ↓e_tkR45_1, ↓e_tkR46_0, ↓e_tkR46_1, ↓e_tkR47_0, ↓e_tkR47_1, ↓e_tkR48_0, ↓e_tkR48_1, ↓e_pv0, ↓e_pv1, ↓e_pv2, ↓e_pv3, ↓e_pv5, ↓e_pvR, ↓e_tsw0, ↓e_tsw1, ↓e_lsw0, ↓e_lsw1, e_kq100, e_kq0, e_kq3, e_kq5, e_kqR0, e_kqR1, e_kqR2, e_kqR3, e_kqR4, e_kqR5, e_kqR6, e_kqR7, e_kqR8, e_kqR9, e_kqR10, e_kqR11, e_kqR12, e_kqR13, e_kqR14, e_kqR15, e_kqR16, e_kqR17, e_kqR39, e_kqR40, e_kqR41, e_kqR42, e_kqR43, e_kqR44, e_kqR45, e_kqR46, e_kqR47, e_kqR48, e_st0I, e_st0R, e_st0L, e_st1N, e_st1I, e_st1L, e_st1R, e_st2, e_wd0, e_wdI, e_wdL, e_wdR, e_c1I, e_c1R, e_gv0, e_gv1, e_gv2, e_gv3, e_gv4, e_gv5, e_gvR0, e_gvR1, e_gvR2, e_gvR3, e_gvR4, e_gvR5, e_gvR6, e_gvR7, e_gvR8, e_gvR9, e_gvR10, e_gvR11, e_gvR12, e_gvR13, e_gvR14, e_gvR15, e_gvR16, e_gvR17, e_gvR39, e_gvR40, e_gvR41, e_gvR42, e_gvR43, e_gvR44, e_gvR45, e_gvR46, e_gvR47, e_gvR48, e_kX0, e_kX1, e_kVv, e_kVx, e_kIv, e_kIx, e_kLv, e_kLx, e_kRv, e_kRx, e_thr, e_lk1, e_ic0, e_ic1, e_jm, st_ap, clr_ap, e_lceq, e_lclt, e_lcgt, nn, ↓reduceIte, Nat.reduceDiv, Nat.reduceMod, Nat.reduceMul, Nat.reduceAdd, Nat.reduceEqDiff, Nat.reduceLeDiff, Int.reduceNatCast, Int.cast_ofNat_Int, Int.reduceSub, Int.reduceMul, Int.reduceNeg, Int.reduceAdd, Int.reduceLE, Int.reduceLT, Int.reduceEq, Int.reduceNe, true_and, and_true, true_or, and_self, ne_eq, not_false_eq_true, Bool.false_eq_true, reduceCtorEq, rd_l1, rd_l2, rd_l3, rd_l4, rd_l5, rd_l6, rd_l7, rd_l8, rd_l9, SB, rd_ge, i2b_2, false_and, and_false, not_true_eq_false, l98_0, l98_12, l98_31, l98_58, l98_68, l98_109, l98_131, l98_173, l98_196, l98_245, l98_246, l98_349, l98_350, l98_352, l98_376, l98_378, s98_0, s98_12, s98_31, s98_58, s98_68, s98_109, s98_131, s98_173, s98_196, s98_245, s98_246, s98_349, s98_350, s98_352, s98_376, s98_378, zC_18, zC_20, zC_21, zC_22, zC_23, zC_25, zC_26, zC_253, zC_254, zC_256, zC_257, zC_259, zC_260, zC_262, zC_263, zC_265, zC_266, zC_268, zC_269, zC_271, zC_272, zC_274, zC_275, zC_278, zC_279, zC_280, zC_281, zC_282, zC_284, zC_285, zC_287, zC_288, zC_290, zC_291, zC_293, zC_294, zC_296, zC_297, zC_299, zC_300, zC_302, zC_303, zC_304, zC_305, zC_306, zC_307, zC_308, zC_309, zC_310, zC_311, zC_312, zC_315, zC_316, zC_317, zC_319, zC_320, zC_321, zC_323, zC_324, zC_325, zC_327, zC_328, zC_329, zC_331, zC_332, zC_333, zC_335, zC_336, zC_337, zC_339, zC_340, zC_341, zC_343, zC_344, zC_345, zC_347, zC_348, zC_349, zC_350, zC_351, zC_352, zC_353, zC_354, zC_355, zC_356, zC_357, zC_358, zC_359, zC_361, zC_362, zC_363, zC_364, zC_367, zC_368, zC_369, zC_370, zC_371, zC_372, zC_373, zC_374, zC_375, zC_376, zC_378, zC_380, zC_381, zC_383, zC_384, zC_386, zC_387, zC_389, zC_390, zC_391, zC_392, zC_393, zC_394, zC_395, zC_396, zC_397, zC_398, zC_400, zC_402, zC_403, zC_405, zC_407, zC_409, zC_411, zC_413, zC_415, zC_417, zC_420, zC_421, zC_422, zC_423, zC_424, zC_425, zC_427, zC_429, zC_431, zC_433, zC_436, zC_437, zC_438, zC_439, zC_440, zC_441, zC_442, zC_443, zC_444, zC_445, zC_447, zC_448, zC_450, zC_451, zC_453, zC_454, zC_455, zC_456, zC_457, zC_458, zC_460, zC_461, zC_462, zC_463, zC_464, zC_465, zC_466, zC_467, zC_468, zC_469, zC_471, zC_473, zC_474, zC_476, zC_477, zC_478, zC_479, zC_480, zC_481, zC_482, zC_483, zC_484, zC_485, zC_487, zC_489, zC_490, zC_491, zC_493, zC_495, zC_497, zC_499]
  refine J_posL (by omega) ?_
  refine p_benchL (X := X) (o := 28 + 2 * k1) (c := 12000) (L := slc fg 0 (lov fm fl g).toNat) (by rw [show 28 + 2 * k1 + 1 = 29 + 2 * k1 by omega, zz1]; rfl) (by omega) (by omega) (RB_t Rb (fun a j x => f5 a j (by omega)) (fun _ _ _ => rfl)) (by rw [f5 _ _ (by omega)]; exact no) (by rw [f5 _ _ (by omega), f5 _ _ (by omega)]; exact one) G5 ?_
  intro R h6 w1 G6 O1 yR r4 R4 Rb6 F6 W1
  simp only [e_kVv]
  have F6' : ∀ a j, ¬ (a = 28 + 2 * k1 ∧ (j = 1 ∨ j = 2)) → a ≠ 29 + 2 * k1 → a < 454 → h6 a j = h5 a j := fun a j x y z => F6 a j (by unfold bnC lyC; omega)
  have e6 : h6 365 2 = fm := by rw [F6' _ _ (by omega) (by omega) (by omega)]; exact V5.2.1.2.2.1
  rw [e6]
  have ll := lcL_l fm sv (g + 1).toNat
  have ml : ((lcL fm sv (g + 1).toNat).length : Int) ≤ 400 := by
    rw [ll]
    rcases v2.2.2.2 with q | q
    · rw [if_pos q]; omega
    · rw [if_neg (by omega)]; omega
  have bs := BG_s G6
  obtain ⟨h7, e7, B7, F7⟩ := c_178 (n := n) (h := h6) (o := 28 + 2 * k2) (v := h6 (28 + 2 * k1) 1) (x := fm) (M := lcL fm sv (g + 1).toNat) (by omega) (by rw [show 28 + 2 * k2 + 1 = 29 + 2 * k2 by omega, zz2]; omega) ⟨by rw [F6' _ _ (by omega) (by omega) (by omega)]; exact B5.1, fun i hi => by rw [F6' _ _ (by omega) (by omega) (by omega)]; exact B5.2 i hi⟩ (by rw [show 28 + 2 * k2 + 1 = 29 + 2 * k2 by omega, zz2]; omega) (by omega)
  have F7' : ∀ a j, ¬ (a = 28 + 2 * k2 ∧ j = 1) → a ≠ 29 + 2 * k2 → h7 a j = h6 a j := fun a j x y => F7 a j (by unfold bdC; omega)
  refine J_andL (by omega) (J_LV e7 (J_andL (by unfold i32; omega) ?_))
  have V7 : LVW kl kg al fm N Ng fl fg h7 := LVW_t V5 nb1 nb2 (fun a j x1 x2 x3 x4 x5 => by rw [F7' _ _ (by omega) (by omega), F6' _ _ (by omega) (by omega) (by omega)]) k10 k20
  have G7 : BG h7 (28 + 2 * k1) 12000 (slc fg 0 (lov fm fl g).toNat ++ R) := BG_t G6 (fun a j x => F7' a j (by omega) (by omega))
  have B7' : BL h7 (28 + 2 * k2) (lcL fm (ufn sv (g + 1) (h6 (28 + 2 * k1) 1)) (g + 1 + 1).toNat) := by
    rw [show (g + 1 + 1).toNat = (g + 1).toNat + 1 by omega, lcL, show (((g + 1).toNat : Nat) : Int) = g + 1 by omega]
    have el : lcL fm (ufn sv (g + 1) (h6 (28 + 2 * k1) 1)) (g + 1).toNat = lcL fm sv (g + 1).toNat := lcL_c _ (fun i x y => if_neg (by omega))
    rw [el, show ufn sv (g + 1) (h6 (28 + 2 * k1) 1) (g + 1) = h6 (28 + 2 * k1) 1 from if_pos rfl]
    exact B7
  have len : ((slc fg 0 (lov fm fl g).toNat ++ R).length : Int) = lov fm fl g + R.length := by rw [List.length_append, slc_l]; omega
  have s6 : lov fm fl g + R.length ≤ 12000 → h6 (28 + 2 * k1) 1 = lov fm fl g + R.length := fun q => by
    rcases G6 with ⟨b1, b2, b3⟩ | ⟨b1, _⟩
    · rw [b3.1, len]
    · omega
  have sg : ∀ i, 0 ≤ i → i ≤ g → sv i = lov fm fl i := fun i x y => by
    have ri := LOK_m v6 (al - i).toNat i x (by omega)
    by_cases e : i = 0
    · rw [S1 i (by omega), e, lz]
    · rw [S2 i (by omega) y (by rw [lz]; simp; omega), lz]; simp
  have F47 : ∀ a j, ¬ l4C k1 k2 a j → h7 a j = hk a j := fun a j x => by
    have x' : ¬ (a = 28 + 2 * k1 ∨ a = 29 + 2 * k1 ∨ a = 28 + 2 * k2 ∨ a = 29 + 2 * k2 ∨ a = 460 ∨ (474 ≤ a ∧ a ≤ 476 ∧ (a = 475 → j = 0)) ∨ a = 481 ∨ (486 ≤ a ∧ a ≤ 490)) := x
    rw [F7' a j (by omega) (by omega), F6 a j (by unfold bnC lyC; omega), F5' a j (by omega) (by omega) (by omega) (by omega), E4 a j (by omega) (by omega) (by omega)]
  have l71 : h7 (28 + 2 * k1) 3 = 1 := by rw [F7' _ _ (by omega) (by omega), F6' _ _ (by omega) (by omega) (by omega), F5' _ _ (by omega) (by omega) (by omega) (by omega), E41]; exact a1
  have l72 : h7 (28 + 2 * k2) 3 = 1 := by rw [F7' _ _ (by omega) (by omega), F6' _ _ (by omega) (by omega) (by omega), F5' _ _ (by omega) (by omega) (by omega) (by omega)]; exact E43
  have Rb7 : RB h7 w1 := RB_t Rb6 (fun a j x => F7' a j (by omega) (by omega)) (fun _ _ _ => rfl)
  have z1' : h (28 + 2 * k1) 3 = 0 := by rw [← ek _ _ (by omega)]; exact z1
  have z2' : h (28 + 2 * k2) 3 = 0 := by rw [← ek _ _ (by omega)]; exact z2
  rcases gn with ⟨ga, en⟩ | ⟨ga, en⟩
  · subst en
    refine c_lsts k10 k20 n12 nb1 nb2 (a := g + 1) (z := nnn) (by omega) (by omega) (by omega) (by omega) (fun k x y => by omega) (sv := ufn sv (g + 1) (h6 (28 + 2 * k1) 1)) V7 G7 B7' ?_
    intro h8 sv' V8 G8 B8 S3 S4 F8
    have F8' : ∀ a j, ¬ (a = 28 + 2 * k1 ∧ (j = 1 ∨ j = 2)) → a ≠ 29 + 2 * k1 → ¬ (a = 28 + 2 * k2 ∧ j = 1) → a ≠ 29 + 2 * k2 → h8 a j = h7 a j := fun a j x y z t => F8 a j (by unfold l2C; omega)
    have r1 := lok_r v6 v3.1 (k := g + 1) (by omega) (by omega)
    have le := rg.2.2 ga
    have la : lov fm fl nnn = Ng := v6.2.2
    refine fin hk h8 w1 k1 k2 R ⟨⟨kp, Fk, fun a j x => ?_, W1⟩, ⟨k10, k20, n12, z1', z2', ?_, ?_⟩, ?_, ⟨sv', B8, fun i i0 i1 q => ?_⟩, O1, yR, R4, RB_t Rb7 (fun a j x => F8' a j (by omega) (by omega) (by omega) (by omega)) (fun _ _ _ => rfl)⟩
    · have x' : ¬ (a = 28 + 2 * k1 ∨ a = 29 + 2 * k1 ∨ a = 28 + 2 * k2 ∨ a = 29 + 2 * k2 ∨ a = 460 ∨ (474 ≤ a ∧ a ≤ 476 ∧ (a = 475 → j = 0)) ∨ a = 481 ∨ (486 ≤ a ∧ a ≤ 490)) := x
      rw [F8' a j (by omega) (by omega) (by omega) (by omega)]; exact F47 a j x
    · rw [F8' _ _ (by omega) (by omega) (by omega) (by omega)]; exact l71
    · rw [F8' _ _ (by omega) (by omega) (by omega) (by omega)]; exact l72
    · rw [if_pos ga]; rw [la] at G8; exact G8
    · rw [if_pos ga] at q ⊢
      rw [if_pos ga]
      unfold mvv
      rw [len] at S4
      by_cases q1 : i ≤ g
      · rw [if_pos q1, S3 i (by omega), show ufn sv (g + 1) (h6 (28 + 2 * k1) 1) i = sv i from if_neg (by omega)]
        exact sg i i0 q1
      · rw [if_neg q1, if_pos rfl]
        by_cases q2 : i = g + 1
        · rw [S3 i (by omega), q2, show ufn sv (g + 1) (h6 (28 + 2 * k1) 1) (g + 1) = h6 (28 + 2 * k1) 1 from if_pos rfl, s6 (by omega)]
          omega
        · have ri := LOK_m v6 (nnn - i).toNat i i0 (by omega)
          rw [S4 i (by omega) i1 (by omega)]
          omega
  · rw [show g + 1 = nnn by omega] at B7' ⊢
    have na : ¬ g < al := by omega
    have la : lov fm fl g = Ng := by rw [ga]; exact v6.2.2
    refine fin hk h7 w1 k1 k2 R ⟨⟨kp, Fk, F47, W1⟩, ⟨k10, k20, n12, z1', z2', l71, l72⟩, ?_, ⟨_, B7', fun i i0 i1 q => ?_⟩, O1, yR, R4, Rb7⟩
    · rw [if_neg na, la, show (Ng - Ng).toNat = 0 by omega]
      rw [la] at G7
      rw [show slc fg Ng 0 = [] from rfl, List.append_nil]
      exact G7
    · rw [if_neg na] at q ⊢
      rw [if_neg na]
      unfold mvv
      by_cases q1 : i ≤ g
      · rw [if_pos q1, show ufn sv nnn (h6 (28 + 2 * k1) 1) i = sv i from if_neg (by omega)]
        exact sg i i0 q1
      · rw [if_neg q1, if_neg (by omega), show i = nnn by omega, show ufn sv nnn (h6 (28 + 2 * k1) 1) nnn = h6 (28 + 2 * k1) 1 from if_pos rfl, s6 (by omega)]
        omega
end
