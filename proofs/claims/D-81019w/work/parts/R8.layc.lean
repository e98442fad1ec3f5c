set_option maxRecDepth 100000
theorem tgf_l {s : Int → Int} {fr to N : Int} {R : List Int} (r : 0 ≤ fr ∧ fr ≤ to ∧ to ≤ N) {i : Nat} (hi : (i : Int) < N - (to - fr) + R.length) : (slc s 0 fr.toNat ++ R ++ slc s to (N - to).toNat).getD i 0 = tgf s fr to R i := by
  unfold tgf
  by_cases q1 : (i : Int) < fr
  · rw [if_pos q1, gD_l (by rw [List.length_append, slc_l]; omega), gD_l (by rw [slc_l]; omega), slc_g _ _ _ _ (by omega)]
    congr 1; omega
  · rw [if_neg q1]
    by_cases q2 : (i : Int) < fr + R.length
    · rw [if_pos q2, gD_l (by rw [List.length_append, slc_l]; omega), gD_r (by rw [slc_l]; omega), slc_l]
      congr 1; omega
    · rw [if_neg q2, gD_r (by rw [List.length_append, slc_l]; omega), List.length_append, slc_l, slc_g _ _ _ _ (by omega)]
      congr 1; omega
theorem tgf_b {s : Int → Int} {fr to N : Int} {R : List Int} (r : 0 ≤ fr ∧ fr ≤ to ∧ to ≤ N) (y : ∀ j, 0 ≤ j → j < N → -128 ≤ s j ∧ s j ≤ 127) (yR : byt R) {i : Int} (i0 : 0 ≤ i) (i1 : i < N - (to - fr) + R.length) : -128 ≤ tgf s fr to R i ∧ tgf s fr to R i ≤ 127 := by
  unfold tgf
  by_cases q1 : i < fr
  · rw [if_pos q1]; exact y i i0 (by omega)
  · rw [if_neg q1]
    by_cases q2 : i < fr + R.length
    · rw [if_pos q2]; exact byt_g yR _
    · rw [if_neg q2]; exact y _ (by omega) (by omega)
/-- loca goes up -/
theorem LOK_i {al fm N : Int} {fl : Int → Int} (L : LOK al fm N fl) {k k' : Int} (k0 : 0 ≤ k) (kk : k ≤ k') (ka : k' ≤ al) : lov fm fl k ≤ lov fm fl k' := by
  refine lp (F := fun i => lov fm fl i ≤ lov fm fl k') (b := k) (n := k') kk (fun z z0 z1 q => ?_) (Int.le_refl _)
  have := L.2.1 (z + 1) (by omega) (by omega)
  rw [show z + 1 - 1 = z by omega] at this
  omega
section
variable {A B : Qt → Prop} {Φ : Out → Int → Mem → Out → Int → Mem → Prop} {KL KM : Qt → Qt} {n m : Int} {h w : Mem}
theorem OL_t {w1 : Mem} {R : List Int} (O : OL w R) (e : ∀ a j, a = 82 ∨ (a = 17 ∧ j = 96) → w1 a j = w a j) : OL w1 R := ⟨by rw [e _ _ (by omega)]; exact O.1, fun i a b => by rw [e _ _ (by omega)]; exact O.2 i a b⟩
/-- what has been laid goes into the store -/
theorem p_layC {k1 k2 kl bl kg bg g x3 x4 nnn fr to p sz : Int} {R : List Int} {hk h1 w1 : Mem} (RS : RST h w) (hp : w 55 p = 1) (V : VWG p 1 h w) (Vl : VB p 1819239265 7 kl bl h w) (Vg : VB p 1735162214 8 kg bg h w) (sl : h (28 + 2 * kl) 1 = (w 17 70 + 1) * (if w 17 72 = 0 then 2 else 4)) (L : LOK (w 17 70) (w 17 72) (h (28 + 2 * kg) 1) (h (29 + 2 * kl))) (Y : LYD k1 k2 (w 17 70) (w 17 72) (h (28 + 2 * kg) 1) g x4 nnn fr to (h (29 + 2 * kl)) (h (29 + 2 * kg)) R h w hk h1 w1) (p0 : 0 ≤ p ∧ p < 4) (g0 : 0 ≤ g) (n64 : nnn ≤ 64) (efr : fr = lov (w 17 72) (h (29 + 2 * kl)) g) (cs : (x4 = 0 ∧ g < w 17 70 ∧ nnn = w 17 70 ∧ to = lov (w 17 72) (h (29 + 2 * kl)) (g + 1)) ∨ (x4 = 1 ∧ g = w 17 70 ∧ nnn = w 17 70 + 1 ∧ to = fr)) (esz : sz = h (28 + 2 * kg) 1 - (to - fr) + R.length) (szl : sz ≤ 12000)
    (fin : ∀ (h2 w2 : Mem) (z : Int), RST h2 w2 → RB h2 w2 → Fz slC h h2 → Fz slM w w2 → J2 (fun Q => Q (.inl (some (vI z))) n h2) (fun Q => Q (.inl (some (vI z))) m w2) Φ) :
    J2 (fun Q => T_at gC 98 109 [some (vR 1 17), some (vI p), some (vI g), some (vI x3), some (vI nnn), some (vR 2 (28 + 2 * k1)), some (vR 2 (28 + 2 * k2)), some (vI nnn), none, none, none] [] n h1 Q) (fun Q => T gM 313 [vR 33 17] m w1 (kV (thr Q) fun n h_6 => T gM 346 [vR 33 17, vI p, vL 1819239265] n h_6 (kI (thr Q) fun a_4 n h_7 => T gM 316 [vR 33 17, vI sz] n h_7 (kI (thr Q) fun a_5 n h_8 => T_at gM 402 196 [some (vR 33 17), some (vI p), some (vI g), some (vI x3), some (vI x4), some (vI nnn), some (vI bg), some (vI fr), some (vI to), some (vI sz), some (vI a_4), some (vI (h_7 17 72)), some (vI a_5), some (vI 0), none, none, none] [] n h_8 Q)))) Φ := by
  obtain ⟨⟨kp, Fk, F1, W1⟩, ⟨k10, k20, n12, z1, z2, l1, l2⟩, G, ⟨sv, BL2, SV⟩, O, yR, R4, Rb⟩ := Y
  obtain ⟨v0, v1, v2, -⟩ := id V
  have bs := bnM_s W1
  obtain ⟨β, R1⟩ := RST_f RS (fun _ _ _ _ => rfl) bs
  have hp1 : w1 55 p = 1 := by rw [bs _ _ (by omega) (by omega)]; exact hp
  have Vl1 := VB_t p0 Vl (fun _ _ _ _ => rfl) rfl (fun a i q => bs a i (by omega) (by omega))
  have Vg1 := VB_t p0 Vg (fun _ _ _ _ => rfl) rfl (fun a i q => bs a i (by omega) (by omega))
  obtain ⟨dl, bbl, rl, rl0, erl⟩ := VB_d R1 p0 hp1 Vl1
  obtain ⟨dg, bbg, rg, rg0, erg⟩ := VB_d R1 p0 hp1 Vg1
  obtain ⟨⟨kl0, bl0, ls1, ls2, ls3⟩, el7, fbl, -⟩ := id Vl1
  obtain ⟨⟨kg0, bg0, gs1, gs2, gs3⟩, eg8, fbg, -⟩ := id Vg1
  have r26 := (rs_n ⟨β, R1⟩ (by omega : 0 ≤ p ∧ p ≤ 3)).1
  have c57 := (rs_n ⟨β, R1⟩ (by omega : 0 ≤ p ∧ p ≤ 3)).2.2.2 hp1
  refine m_keepC (h := hk) (h0 := h) R1 kp (fun a j x y q => Fk a j q) ?_
  intro w2 C2 G2
  simp only [e_kVv]
  have nk1 : ¬ bsy h k1 := fun q => by have := q.2.2; omega
  have nk2 : ¬ bsy h k2 := fun q => by have := q.2.2; omega
  have e1 : ∀ a j, a < 454 → a ≠ 28 + 2 * k1 → a ≠ 29 + 2 * k1 → a ≠ 28 + 2 * k2 → a ≠ 29 + 2 * k2 → h1 a j = hk a j := fun a j x y1 y2 y3 y4 => F1 a j (by unfold l4C; omega)
  have C3 : CHG β β (bsy h) 2 0 h w1 h1 w2 := by
    refine cg_hs (S := fun k => k = k1 ∨ k = k2) C2 (fun k q e => ?_) (fun a j x y => e1 a j (by omega) (by omega) (by omega) (by omega) (by omega)) (fun k x y q j => ?_) (fun a j x y => e1 a j (by omega) (by omega) (by omega) (by omega) (by omega)) (fun k x y => ?_) ?_
    · rcases e with e | e
      · exact nk1 (e ▸ q)
      · exact nk2 (e ▸ q)
    · have q' : ¬ (k = k1 ∨ k = k2) := q
      exact ⟨e1 _ _ (by omega) (by omega) (by omega) (by omega) (by omega), e1 _ _ (by omega) (by omega) (by omega) (by omega) (by omega)⟩
    · by_cases q1 : k = k1
      · rw [q1]; exact Or.inr l1
      · by_cases q2 : k = k2
        · rw [q2]; exact Or.inr l2
        · rw [e1 _ _ (by omega) (by omega) (by omega) (by omega) (by omega)]; exact C2.2.2.2.2.1.2.1 k x y
    · rw [smi_c (g := ufn (ufn (fun k => hk (28 + 2 * k) 3) k1 1) k2 1) (fun k a _ => by
        unfold ufn
        by_cases q2 : k = k2
        · rw [if_pos q2, q2]; exact l2
        · rw [if_neg q2]
          by_cases q1 : k = k1
          · rw [if_pos q1, q1]; exact l1
          · rw [if_neg q1]; exact e1 _ _ (by omega) (by omega) (by omega) (by omega) (by omega)), smi_u k20.1 k20.2, smi_u k10.1 k10.2, ufn_n (Ne.symm n12)]
      have h1' := C2.2.2.2.2.1.2.1 k1 k10.1 k10.2
      have h2' := C2.2.2.2.2.1.2.1 k2 k20.1 k20.2
      have := C2.2.2.2.2.1.2.2.2.1
      show smi (fun k => hk (28 + 2 * k) 3) 112 - hk (28 + 2 * k1) 3 + 1 - hk (28 + 2 * k2) 3 + 1 ≤ 40 + 2
      omega
  have w2e : ∀ a j, ¬ kpM a j → w2 a j = w1 a j := G2
  refine J_RI (m_bof p0 (BOF_k fbl (w2e _ _ (by unfold kpM; omega)) (fun i _ _ => w2e _ _ (by unfold kpM; omega)) (fun i _ _ _ => w2e _ _ (by unfold kpM; omega)))) ?_
  have fm1 : w1 17 72 = w 17 72 := W1 _ _ (by unfold bnM fbM olM; omega)
  rw [w2e 17 72 (by unfold kpM; omega), fm1]
  have r1 := lok_r L v0.2.1 (k := g) g0 (by omega)
  have ft : 0 ≤ fr ∧ fr ≤ to ∧ to ≤ h (28 + 2 * kg) 1 := by
    rcases cs with ⟨q1, q2, q3, q4⟩ | ⟨q1, q2, q3, q4⟩
    · have r2 := lok_r L v0.2.1 (k := g + 1) (by omega) (by omega)
      have := r1.2.2 q2
      omega
    · omega
  obtain ⟨c, w3, c0, nbc, evf, lc3, sc3, -, G3, C4⟩ := mg_fresh (m := m) (x := sz) C3 (by omega) (by omega)
  refine J_RI evf ?_
  have w3e : ∀ a j, ¬ kpM a j → ¬ (52 ≤ a ∧ a ≤ 54) → w3 a j = w1 a j := fun a j q x => by rw [G3 _ _ (by omega)]; exact w2e a j q
  have nbg : bg ≠ c := fun e => nbc kg dg (bbg.trans e)
  have nbl : bl ≠ c := fun e => nbc kl dl (bbl.trans e)
  refine m_lay3 (N := h (28 + 2 * kg) 1) (s := h (29 + 2 * kg)) (R := R) bg0 c0 nbg (by rw [G3 _ _ (by omega), w2e _ _ (by unfold kpM; omega)]; exact gs2) (by omega) (OL_t O (fun a j q => w3e a j (by unfold kpM; omega) (by omega))) R4 (by omega) (fun j x y => by rw [G3 _ _ (by omega), w2e _ _ (by unfold kpM; omega), ← (gs3 j x y).1]; exact ⟨rfl, (gs3 j x y).2⟩) yR ?_
  intro w4 P4 G4
  have C5 := cg_w (c := 1) C4 c0 nbc (Fz_mo G4 (fun a j q => Or.inr q)) (Or.inr ((G4 _ _ (by omega)).trans lc3)) (by rw [G4 54 c (by omega)]; have := C4.2.2.2.2.1.2.2.2.2; omega)
  have lenG : ((slc (h (29 + 2 * kg)) 0 fr.toNat ++ R ++ slc (h (29 + 2 * kg)) to (h (28 + 2 * kg) 1 - to).toNat).length : Int) = sz := by rw [List.length_append, List.length_append, slc_l, slc_l]; omega
  obtain ⟨ov, BG1⟩ : h1 (28 + 2 * k1) 2 = 0 ∧ BL h1 (28 + 2 * k1) (slc (h (29 + 2 * kg)) 0 fr.toNat ++ R ++ slc (h (29 + 2 * kg)) to (h (28 + 2 * kg) 1 - to).toNat) := by
    rcases G with ⟨_, b2, b3⟩ | ⟨b1, _⟩
    · exact ⟨b2, b3⟩
    · omega
  have s1 : h1 (28 + 2 * k1) 1 = sz := BG1.1.trans lenG
  have y1 : ∀ i, 0 ≤ i → i < sz → h1 (29 + 2 * k1) i = tgf (h (29 + 2 * kg)) fr to R i := fun i x y => by
    have := BG1.2 i.toNat (by omega)
    rw [tgf_l ft (by omega), show 28 + 2 * k1 + 1 = 29 + 2 * k1 by omega, show ((i.toNat : Nat) : Int) = i by omega] at this
    exact this
  have C6 := cg_tie C5 k10 nk1 l1 c0 nbc ((G4 _ _ (by omega)).trans lc3) (by omega) (by rw [G4 _ _ (by omega), sc3, s1]) (fun i x y => by
    rw [s1] at y
    rw [y1 i x y, P4 i x (by omega)]
    exact ⟨rfl, tgf_b ft (fun j a b => (gs3 j a b).2) yR x (by omega)⟩)
  have w4e : ∀ a j, ¬ kpM a j → ¬ (52 ≤ a ∧ a ≤ 54) → w4 a j = w1 a j := fun a j q x => by rw [G4 _ _ (by omega)]; exact w3e a j q x
  have w455 : w4 55 p = 1 := by rw [w4e _ _ (by unfold kpM; omega) (by omega)]; exact hp1
  have w457 : w4 57 p = w1 57 p := w4e _ _ (by unfold kpM; omega) (by omega)
  obtain ⟨ev1, ev2, C7⟩ := p_putE (n := n) (m := m) C6 p0 w455 (k := k1) (Or.inr rfl) (r := rg) (by rw [w457]; exact rg0) ((w4e _ _ (by unfold kpM; omega) (by omega)).trans erg) (fun q i q0 hq i0 z => cg_nb C5 nbc q i q0 hq i0 (z.trans ufn_e))
  rw [ufn_e] at ev2 C7
  refine J_impR (fun Q hq => blk (md := true) [196, 240, 283, 374] 99 GM FM rfl k402 hq) ?_
  simp -implicitDefEqProofs only [r_iconst, r_bipush, r_sipush, r_ldc, r_ldc_w, r_lconst, r_ldc2_w, r_aconst_null, r_iload, r_iload_n, r_lload, r_lload_n, r_aload, r_aload_n, r_istore, r_istore_n, r_lstore, r_lstore_n, r_astore, r_astore_n, r_iinc, r_iadd, r_iaddW, r_isub, r_isubW, r_imul, r_imulW, r_ladd, r_laddW, r_lsub, r_lsubW, r_lmul, r_lmulW, r_iand, r_ior, r_ishl, r_ishr, r_iushr, r_land, r_lor, r_lshl, r_lshr, r_lushr, r_idiv, r_irem, r_ldiv, r_lrem, r_lcmp, r_ineg, r_i2l, r_l2i, r_i2b, r_i2s, r_i2c, r_dup, r_pop, r_dup_x1, r_dup_x2, r_dup2, r_dup2L, r_icmp_eq, r_icmp_ne, r_icmp_lt, r_icmp_ge, r_icmp_gt, r_icmp_le, r_if_eq, r_if_ne, r_if_lt, r_if_ge, r_if_gt, r_if_le, r_acmp_eq, r_acmp_ne, r_ifnull, r_ifnonnull, r_goto, r_nop, r_tsw, r_lsw, r_getfield, r_getfinal, r_putfield, r_getstaticL, r_getstaticR, r_iaload, r_baload, r_saload, r_laload, r_aaload, r_aaloadM, r_iastore, r_bastore, r_zastore, r_sastore, r_lastore, r_aastore, r_alen, r_new, r_newarray, r_anewarray, r_invV, r_invI, r_objI, r_invS, r_acp, r_ireturn, r_zreturn, r_lreturn, r_return, r_areturn, r_athrow, ↓e_pI, ↓e_pL, ↓e_pR, ↓e_lg0, ↓e_lg1, ↓e_tk0, ↓e_tkI0, ↓e_tkI1, ↓e_tkI2, ↓e_tkI3, ↓e_tkI4, ↓e_tkL, ↓e_tkR0_0, ↓e_tkR0_1, ↓e_tkR1_0, ↓e_tkR1_1, ↓e_tkR2_0, ↓e_tkR2_1, ↓e_tkR3_0, ↓e_tkR3_1, ↓e_tkR4_0, ↓e_tkR4_1, ↓e_tkR5_0, ↓e_tkR5_1, ↓e_tkR6_0, ↓e_tkR6_1, ↓e_tkR7_0, ↓e_tkR7_1, ↓e_tkR8_0, ↓e_tkR8_1, ↓e_tkR9_0, ↓e_tkR9_1, ↓e_tkR10_0, ↓e_tkR10_1, ↓e_tkR11_0, ↓e_tkR11_1, ↓e_tkR12_0, ↓e_tkR12_1, ↓e_tkR13_0, ↓e_tkR13_1, ↓e_tkR14_0, ↓e_tkR14_1, ↓e_tkR15_0, ↓e_tkR15_1, ↓e_tkR16_0, ↓e_tkR16_1, ↓e_tkR17_0, ↓e_tkR17_1, ↓e_tkR39_0, ↓e_tkR39_1, ↓e_tkR40_0, ↓e_tkR40_1, ↓e_tkR41_0, ↓e_tkR41_1, ↓e_tkR42_0, ↓e_tkR42_1, ↓e_tkR43_0, ↓e_tkR43_1, ↓e_tkR44_0, ↓e_tkR44_1, ↓e_tkR45_0, ↓e_tkR45_1, ↓e_tkR46_0, ↓e_tkR46_1, ↓e_tkR47_0, ↓e_tkR47_1, ↓e_tkR48_0, ↓e_tkR48_1, ↓e_pv0, ↓e_pv1, ↓e_pv2, ↓e_pv3, ↓e_pv5, ↓e_pvR, ↓e_tsw0, ↓e_tsw1, ↓e_lsw0, ↓e_lsw1, e_kq100, e_kq0, e_kq3, e_kq5, e_kqR0, e_kqR1, e_kqR2, e_kqR3, e_kqR4, e_kqR5, e_kqR6, e_kqR7, e_kqR8, e_kqR9, e_kqR10, e_kqR11, e_kqR12, e_kqR13, e_kqR14, e_kqR15, e_kqR16, e_kqR17, e_kqR39, e_kqR40, e_kqR41, e_kqR42, e_kqR43, e_kqR44, e_kqR45, e_kqR46, e_kqR47, e_kqR48, e_st0I, e_st0R, e_st0L, e_st1N, e_st1I, e_st1L, e_st1R, e_st2, e_wd0, e_wdI, e_wdL, e_wdR, e_c1I, e_c1R, e_gv0, e_gv1, e_gv2, e_gv3, e_gv4, e_gv5, e_gvR0, e_gvR1, e_gvR2, e_gvR3, e_gvR4, e_gvR5, e_gvR6, e_gvR7, e_gvR8, e_gvR9, e_gvR10, e_gvR11, e_gvR12, e_gvR13, e_gvR14, e_gvR15, e_gvR16, e_gvR17, e_gvR39, e_gvR40, e_gvR41, e_gvR42, e_gvR43, e_gvR44, e_gvR45, e_gvR46, e_gvR47, e_gvR48, e_kX0, e_kX1, e_kVv, e_kVx, e_kIv, e_kIx, e_kLv, e_kLx, e_kRv, e_kRx, e_thr, e_lk1, e_ic0, e_ic1, e_jm, st_ap, clr_ap, e_lceq, e_lclt, e_lcgt, nn, ↓reduceIte, Nat.reduceDiv, Nat.reduceMod, Nat.reduceMul, Nat.reduceAdd, Nat.reduceEqDiff, Nat.reduceLeDiff, Int.reduceNatCast, Int.cast_ofNat_Int, Int.reduceSub, Int.reduceMul, Int.reduceNeg, Int.reduceAdd, Int.reduceLE, Int.reduceLT, Int.reduceEq, Int.reduceNe, true_and, and_true, true_or, and_self, ne_eq, not_false_eq_true, Bool.false_eq_true, reduceCtorEq, rd_l1, rd_l2, rd_l3, rd_l4, rd_l5, rd_l6, rd_l7, rd_l8, rd_l9, SB, rd_ge, i2b_2, false_and, and_false, not_true_eq_false, l402_0, l402_12, l402_24, l402_26, l402_38, l402_39, l402_55, l402_59, l402_73, l402_83, l402_111, l402_119, l402_165, l402_196, l402_237, l402_240, l402_279, l402_283, l402_340, l402_364, l402_365, l402_374, l402_400, l402_411, l402_434, l402_454, l402_548, l402_560, l402_562, s402_0, s402_12, s402_24, s402_26, s402_38, s402_39, s402_55, s402_59, s402_73, s402_83, s402_111, s402_119, s402_165, s402_196, s402_237, s402_240, s402_279, s402_283, s402_340, s402_364, s402_365, s402_374, s402_400, s402_411, s402_434, s402_454, s402_548, s402_560, s402_562, zM_18, zM_19, zM_20, zM_21, zM_22, zM_23, zM_24, zM_25, zM_26, zM_27, zM_28, zM_29, zM_30, zM_31, zM_32, zM_33, zM_34, zM_35, zM_36, zM_37, zM_38, zM_39, zM_40, zM_41, zM_42, zM_43, zM_44, zM_45, zM_46, zM_47, zM_48, zM_49, zM_50, zM_51, zM_52, zM_53, zM_54, zM_55, zM_56, zM_57, zM_58, zM_59, zM_60, zM_61, zM_62, zM_63, zM_64, zM_65, zM_66, zM_67, zM_68, zM_69, zM_70, zM_71, zM_72, zM_73, zM_74, zM_75, zM_76, zM_77, zM_78, zM_79, zM_80, zM_81, zM_82, zM_83, zM_84, zM_85, zM_86, zM_87, zM_88, zM_89, zM_90, zM_91, zM_92, zM_93, zM_94, zM_95, zM_96, zM_97, zM_98, zM_99, zM_100, zM_101, zM_102, zM_103, zM_104, zM_105, zM_106, zM_107, zM_108, zM_109, zM_110, zM_111, zM_112, zM_113, zM_114, zM_115, zM_116, zM_117, zM_118, zM_119]
  rw [show w4 53 bg = h (28 + 2 * kg) 1 by rw [G4 _ _ (by omega), G3 _ _ (by omega), w2e _ _ (by unfold kpM; omega)]; exact gs2]
  refine J_andR bg0.1 (J_andR bg0.2 (J_negR (by omega) (J_RV ev2 (J_andR (by unfold i32; omega) ?_))))
  have h126 : h1 26 p = 252 + 6 * p := by rw [e1 _ _ (by omega) (by omega) (by omega) (by omega) (by omega), Fk _ _ (by unfold olC; omega)]; exact r26
  refine J_impL (fun Q hq => blk (md := true) [109] 99 GC FC rfl k98 hq) ?_
  simp -implicitDefEqProofs only [r_iconst, r_bipush, r_sipush, r_ldc, r_ldc_w, r_lconst, r_ldc2_w, r_aconst_null, r_iload, r_iload_n, r_lload, r_lload_n, r_aload, r_aload_n, r_istore, r_istore_n, r_lstore, r_lstore_n, r_astore, r_astore_n, r_iinc, r_iadd, r_iaddW, r_isub, r_isubW, r_imul, r_imulW, r_ladd, r_laddW, r_lsub, r_lsubW, r_lmul, r_lmulW, r_iand, r_ior, r_ishl, r_ishr, r_iushr, r_land, r_lor, r_lshl, r_lshr, r_lushr, r_idiv, r_irem, r_ldiv, r_lrem, r_lcmp, r_ineg, r_i2l, r_l2i, r_i2b, r_i2s, r_i2c, r_dup, r_pop, r_dup_x1, r_dup_x2, r_dup2, r_dup2L, r_icmp_eq, r_icmp_ne, r_icmp_lt, r_icmp_ge, r_icmp_gt, r_icmp_le, r_if_eq, r_if_ne, r_if_lt, r_if_ge, r_if_gt, r_if_le, r_acmp_eq, r_acmp_ne, r_ifnull, r_ifnonnull, r_goto, r_nop, r_tsw, r_lsw, r_getfield, r_getfinal, r_putfield, r_getstaticL, r_getstaticR, r_iaload, r_baload, r_saload, r_laload, r_aaload, r_aaloadM, r_iastore, r_bastore, r_zastore, r_sastore, r_lastore, r_aastore, r_alen, r_new, r_newarray, r_anewarray, r_invV, r_invI, r_objI, r_invS, r_acp, r_ireturn, r_zreturn, r_lreturn, r_return, r_areturn, r_athrow, ↓e_pI, ↓e_pL, ↓e_pR, ↓e_lg0, ↓e_lg1, ↓e_tk0, ↓e_tkI0, ↓e_tkI1, ↓e_tkI2, ↓e_tkI3, ↓e_tkI4, ↓e_tkL, ↓e_tkR0_0, ↓e_tkR0_1, ↓e_tkR1_0, ↓e_tkR1_1, ↓e_tkR2_0, ↓e_tkR2_1, ↓e_tkR3_0, ↓e_tkR3_1, ↓e_tkR4_0, ↓e_tkR4_1, ↓e_tkR5_0, ↓e_tkR5_1, ↓e_tkR6_0, ↓e_tkR6_1, ↓e_tkR7_0, ↓e_tkR7_1, ↓e_tkR8_0, ↓e_tkR8_1, ↓e_tkR9_0, ↓e_tkR9_1, ↓e_tkR10_0, ↓e_tkR10_1, ↓e_tkR11_0, ↓e_tkR11_1, ↓e_tkR12_0, ↓e_tkR12_1, ↓e_tkR13_0, ↓e_tkR13_1, ↓e_tkR14_0, ↓e_tkR14_1, ↓e_tkR15_0, ↓e_tkR15_1, ↓e_tkR16_0, ↓e_tkR16_1, ↓e_tkR17_0, ↓e_tkR17_1, ↓e_tkR39_0, ↓e_tkR39_1, ↓e_tkR40_0, ↓e_tkR40_1, ↓e_tkR41_0, ↓e_tkR41_1, ↓e_tkR42_0, ↓e_tkR42_1, ↓e_tkR43_0, ↓e_tkR43_1, ↓e_tkR44_0, ↓e_tkR44_1, ↓e_tkR45_0, ↓e_tkR45_1, ↓e_tkR46_0, ↓e_tkR46_1, ↓e_tkR47_0, ↓e_tkR47_1, ↓e_tkR48_0, ↓e_tkR48_1, ↓e_pv0, ↓e_pv1, ↓e_pv2, ↓e_pv3, ↓e_pv5, ↓e_pvR, ↓e_tsw0, ↓e_tsw1, ↓e_lsw0, ↓e_lsw1, e_kq100, e_kq0, e_kq3, e_kq5, e_kqR0, e_kqR1, e_kqR2, e_kqR3, e_kqR4, e_kqR5, e_kqR6, e_kqR7, e_kqR8, e_kqR9, e_kqR10, e_kqR11, e_kqR12, e_kqR13, e_kqR14, e_kqR15, e_kqR16, e_kqR17, e_kqR39, e_kqR40, e_kqR41, e_kqR42, e_kqR43, e_kqR44, e_kqR45, e_kqR46, e_kqR47, e_kqR48, e_st0I, e_st0R, e_st0L, e_st1N, e_st1I, e_st1L, e_st1R, e_st2, e_wd0, e_wdI, e_wdL, e_wdR, e_c1I, e_c1R, e_gv0, e_gv1, e_gv2, e_gv3, e_gv4, e_gv5, e_gvR0, e_gvR1, e_gvR2, e_gvR3, e_gvR4, e_gvR5, e_gvR6, e_gvR7, e_gvR8, e_gvR9, e_gvR10, e_gvR11, e_gvR12, e_gvR13, e_gvR14, e_gvR15, e_gvR16, e_gvR17, e_gvR39, e_gvR40, e_gvR41, e_gvR42, e_gvR43, e_gvR44, e_gvR45, e_gvR46, e_gvR47, e_gvR48, e_kX0, e_kX1, e_kVv, e_kVx, e_kIv, e_kIx, e_kLv, e_kLx, e_kRv, e_kRx, e_thr, e_lk1, e_ic0, e_ic1, e_jm, st_ap, clr_ap, e_lceq, e_lclt, e_lcgt, nn, ↓reduceIte, Nat.reduceDiv, Nat.reduceMod, Nat.reduceMul, Nat.reduceAdd, Nat.reduceEqDiff, Nat.reduceLeDiff, Int.reduceNatCast, Int.cast_ofNat_Int, Int.reduceSub, Int.reduceMul, Int.reduceNeg, Int.reduceAdd, Int.reduceLE, Int.reduceLT, Int.reduceEq, Int.reduceNe, true_and, and_true, true_or, and_self, ne_eq, not_false_eq_true, Bool.false_eq_true, reduceCtorEq, rd_l1, rd_l2, rd_l3, rd_l4, rd_l5, rd_l6, rd_l7, rd_l8, rd_l9, SB, rd_ge, i2b_2, false_and, and_false, not_true_eq_false, l98_0, l98_12, l98_31, l98_58, l98_68, l98_109, l98_131, l98_173, l98_196, l98_245, l98_246, l98_349, l98_350, l98_352, l98_376, l98_378, s98_0, s98_12, s98_31, s98_58, s98_68, s98_109, s98_131, s98_173, s98_196, s98_245, s98_246, s98_349, s98_350, s98_352, s98_376, s98_378, zC_18, zC_20, zC_21, zC_22, zC_23, zC_25, zC_26, zC_253, zC_254, zC_256, zC_257, zC_259, zC_260, zC_262, zC_263, zC_265, zC_266, zC_268, zC_269, zC_271, zC_272, zC_274, zC_275, zC_278, zC_279, zC_280, zC_281, zC_282, zC_284, zC_285, zC_287, zC_288, zC_290, zC_291, zC_293, zC_294, zC_296, zC_297, zC_299, zC_300, zC_302, zC_303, zC_304, zC_305, zC_306, zC_307, zC_308, zC_309, zC_310, zC_311, zC_312, zC_315, zC_316, zC_317, zC_319, zC_320, zC_321, zC_323, zC_324, zC_325, zC_327, zC_328, zC_329, zC_331, zC_332, zC_333, zC_335, zC_336, zC_337, zC_339, zC_340, zC_341, zC_343, zC_344, zC_345, zC_347, zC_348, zC_349, zC_350, zC_351, zC_352, zC_353, zC_354, zC_355, zC_356, zC_357, zC_358, zC_359, zC_361, zC_362, zC_363, zC_364, zC_367, zC_368, zC_369, zC_370, zC_371, zC_372, zC_373, zC_374, zC_375, zC_376, zC_378, zC_380, zC_381, zC_383, zC_384, zC_386, zC_387, zC_389, zC_390, zC_391, zC_392, zC_393, zC_394, zC_395, zC_396, zC_397, zC_398, zC_400, zC_402, zC_403, zC_405, zC_407, zC_409, zC_411, zC_413, zC_415, zC_417, zC_420, zC_421, zC_422, zC_423, zC_424, zC_425, zC_427, zC_429, zC_431, zC_433, zC_436, zC_437, zC_438, zC_439, zC_440, zC_441, zC_442, zC_443, zC_444, zC_445, zC_447, zC_448, zC_450, zC_451, zC_453, zC_454, zC_455, zC_456, zC_457, zC_458, zC_460, zC_461, zC_462, zC_463, zC_464, zC_465, zC_466, zC_467, zC_468, zC_469, zC_471, zC_473, zC_474, zC_476, zC_477, zC_478, zC_479, zC_480, zC_481, zC_482, zC_483, zC_484, zC_485, zC_487, zC_489, zC_490, zC_491, zC_493, zC_495, zC_497, zC_499]
  rw [h126]
  refine J_negL (by omega) (J_andL p0.1 (J_andL p0.2 (J_andL (by omega) (J_posL ov (J_andL (by omega) (J_LI ev1 (J_negL (by omega) (J_andL (by omega) ?_))))))))
  have W5 : Fz (fun a j => a = 59 ∧ j = 16 * p + rg) w4 (st w4 59 (16 * p + rg) c) := Fz_st Fz_0 ⟨rfl, rfl⟩
  have H5 : Fz (fun a j => a = 252 + 6 * p + 2 ∧ j = rg) h1 (st h1 (252 + 6 * p + 2) rg (28 + 2 * k1)) := Fz_st Fz_0 ⟨rfl, rfl⟩
  have fb5 : BOF p 1819239265 bl (st w4 59 (16 * p + rg) c) := BOF_k fbl (by rw [st_na (by omega)]; exact w457) (fun i _ _ => by rw [st_na (by omega)]; exact w4e _ _ (by unfold kpM; omega) (by omega)) (fun i _ _ q => by
    have : i ≠ rg := fun e => by rw [e] at q; omega
    rw [st_nj (by omega)]; exact w4e _ _ (by unfold kpM; omega) (by omega))
  revert W5 H5 C7 fb5
  generalize st w4 59 (16 * p + rg) c = w5
  generalize st h1 (252 + 6 * p + 2) rg (28 + 2 * k1) = h5
  intro C7 W5 H5 fb5
  obtain ⟨fz, hz⟩ : ∃ fz : Int, fz = (if w 17 72 = 0 then 2 else 4) := ⟨_, rfl⟩
  have fz2 : fz = 2 ∨ fz = 4 := by rw [hz]; split <;> omega
  have nz : (nnn + 1) * fz = 2 * (nnn + 1) ∨ (nnn + 1) * fz = 4 * (nnn + 1) := by rcases fz2 with q | q <;> rw [q] <;> omega
  obtain ⟨c2, w6, c20, nbc2, evf2, lc6, sc6, -, G6, C8⟩ := mg_fresh (m := m) (x := (nnn + 1) * fz) C7 (by omega) (by omega)
  have nlk : ∀ k, bsy h k → k ≠ k1 := fun k d q => nk1 (q ▸ d)
  have nlk2 : ∀ k, bsy h k → k ≠ k2 := fun k d q => nk2 (q ▸ d)
  have nbl2 : bl ≠ c2 := fun e => nbc2 kl (Or.inl dl) (by rw [ufn_n (nlk kl dl)]; exact bbl.trans e)
  have nb12 : c ≠ c2 := fun e => nbc2 k1 (Or.inr rfl) (by rw [ufn_e]; exact e)
  have fin316 : ∀ {A' : Qt → Prop}, J2 A' (fun Q => T_at gM 402 374 [some (vR 33 17), some (vI p), some (vI g), some (vI x3), some (vI x4), some (vI nnn), some (vI bg), some (vI fr), some (vI to), some (vI sz), some (vI bl), some (vI (w 17 72)), some (vI c), some (vI c2), some (vI 0), none, none] [] m w6 Q) Φ → J2 A' (fun Q => if w 17 72 = 0 then i32 ((nnn + 1) * 2) ∧ T gM 316 [vR 33 17, vI ((nnn + 1) * 2)] m w5 (kI (thr Q) fun a n h => T_at gM 402 374 [some (vR 33 17), some (vI p), some (vI g), some (vI x3), some (vI x4), some (vI nnn), some (vI bg), some (vI fr), some (vI to), some (vI sz), some (vI bl), some (vI (w 17 72)), some (vI c), some (vI a), some (vI 0), none, none] [] n h Q) else i32 ((nnn + 1) * 4) ∧ T gM 316 [vR 33 17, vI ((nnn + 1) * 4)] m w5 (kI (thr Q) fun a n h => T_at gM 402 374 [some (vR 33 17), some (vI p), some (vI g), some (vI x3), some (vI x4), some (vI nnn), some (vI bg), some (vI fr), some (vI to), some (vI sz), some (vI bl), some (vI (w 17 72)), some (vI c), some (vI a), some (vI 0), none, none] [] n h Q)) Φ := by
    intro A' j
    by_cases q : w 17 72 = 0
    · rw [hz, if_pos q] at evf2
      exact J_posR q (J_andR (by unfold i32; omega) (J_RI evf2 j))
    · rw [hz, if_neg q] at evf2
      exact J_negR q (J_andR (by unfold i32; omega) (J_RI evf2 j))
  refine fin316 ?_
  have esl : h (28 + 2 * kl) 1 = (w 17 70 + 1) * fz := by rw [hz]; exact sl
  have nz2 : (w 17 70 + 1) * fz = 2 * (w 17 70 + 1) ∨ (w 17 70 + 1) * fz = 4 * (w 17 70 + 1) := by rcases fz2 with q | q <;> rw [q] <;> omega
  have mvb : ∀ k, 0 ≤ k → k ≤ nnn → 0 ≤ mvv (w 17 72) (h (29 + 2 * kl)) g x4 (R.length - (to - fr)) sz k ∧ mvv (w 17 72) (h (29 + 2 * kl)) g x4 (R.length - (to - fr)) sz k ≤ 12000 := fun k k0 kn => by
    unfold mvv
    by_cases q1 : k ≤ g
    · rw [if_pos q1]
      have := lok_r L v0.2.1 (k := k) k0 (by omega)
      omega
    · rw [if_neg q1]
      rcases cs with ⟨q3, q4, q5, q6⟩ | ⟨q3, q4, q5, q6⟩
      · rw [if_pos q3]
        have r2 := lok_r L v0.2.1 (k := k) k0 (by omega)
        have r3 := LOK_i L (k := g + 1) (k' := k) (by omega) (by omega) (by omega)
        omega
      · rw [if_neg (by omega)]; omega
  refine m_loc4 (N := h (28 + 2 * kl) 1) (rl := R.length) (fl := h (29 + 2 * kl)) bl0 c20 nbl2 (by omega) g0 (by omega) ⟨by omega, ?_⟩ (by omega) (fun j a b => ?_) ?_ (by omega) (by omega) mvb ?_
  · rw [← hz, esl]
    rcases cs with ⟨q3, q4, q5, q6⟩ | ⟨q3, q4, q5, q6⟩
    · rw [if_pos q3, q5]; exact Int.le_refl _
    · rw [if_neg (by omega), q5, show w 17 70 + 1 + 0 = w 17 70 + 1 by omega]; exact Int.le_refl _
  · rw [G6 _ _ (by omega), W5 _ _ (by omega), G4 _ _ (by omega), G3 _ _ (by omega), w2e _ _ (by unfold kpM; omega)]
    exact (ls3 j a b).1.symm
  · rw [G6 _ _ (by omega), W5 _ _ (by omega), w4e _ _ (by unfold kpM; omega) (by omega)]
    exact O.1
  intro w7 o P7 G7
  have l7 : w7 54 c2 = 1 := (G7 _ _ (by omega)).trans lc6
  have C9 := cg_w (c := 2) C8 c20 nbc2 (Fz_mo G7 (fun a j q => Or.inr q)) (Or.inr l7) (by rw [G7 54 c2 (by omega)]; have := C8.2.2.2.2.1.2.2.2.2; omega)
  have h5e : ∀ a j, a < 252 ∨ 275 < a → h5 a j = h1 a j := fun a j x => H5 _ _ (by omega)
  have svE : lcL (w 17 72) sv (nnn + 1).toNat = lcL (w 17 72) (mvv (w 17 72) (h (29 + 2 * kl)) g x4 (R.length - (to - fr)) sz) (nnn + 1).toNat := lcL_c _ (fun i x y => by rw [SV i x (by omega) (by omega), esz])
  rw [svE] at BL2
  have llen : ((lcL (w 17 72) (mvv (w 17 72) (h (29 + 2 * kl)) g x4 (R.length - (to - fr)) sz) (nnn + 1).toNat).length : Int) = (nnn + 1) * fz := by
    rw [lcL_l, ← hz, show (((nnn + 1).toNat : Nat) : Int) = nnn + 1 by omega]
  have s2 : h5 (28 + 2 * k2) 1 = (nnn + 1) * fz := by rw [h5e _ _ (by omega)]; exact BL2.1.trans llen
  have nk2' : ¬ (bsy h k2 ∨ k2 = k1) := fun q => q.elim nk2 (fun e => n12 e.symm)
  have C10 := cg_tie C9 k20 nk2' (by rw [h5e _ _ (by omega)]; exact l2) c20 nbc2 l7 (by omega) (by rw [G7 _ _ (by omega), sc6, s2]) (fun i x y => by
    rw [s2] at y
    have q1 := BL2.2 i.toNat (by omega)
    have q2 := P7 i.toNat (by omega)
    rw [show 28 + 2 * k2 + 1 = 29 + 2 * k2 by omega, show ((i.toNat : Nat) : Int) = i by omega] at q1
    rw [show ((i.toNat : Nat) : Int) = i by omega] at q2
    rw [h5e _ _ (by omega), q1, q2]
    exact ⟨rfl, byt_g (byt_lL _ _ _) _⟩)
  have w7e : ∀ a j, ¬ kpM a j → ¬ (52 ≤ a ∧ a ≤ 54) → ¬ (a = 59 ∧ j = 16 * p + rg) → w7 a j = w1 a j := fun a j q x y => by rw [G7 _ _ (by omega), G6 _ _ (by omega), W5 _ _ (by omega)]; exact w4e a j q x
  have w757 : w7 57 p = w1 57 p := w7e _ _ (by unfold kpM; omega) (by omega) (by omega)
  have w755 : w7 55 p = 1 := (w7e _ _ (by unfold kpM; omega) (by omega) (by omega)).trans hp1
  have w758 : ∀ i, 0 ≤ i → i < 16 → w7 58 (16 * p + i) = w1 58 (16 * p + i) := fun i _ _ => w7e _ _ (by unfold kpM; omega) (by omega) (by omega)
  obtain ⟨ev3, ev4, C11⟩ := p_putE (n := n) (m := m) C10 p0 w755 (k := k2) (Or.inr rfl) (r := rl) (v := 1819239265) (by rw [w757]; exact rl0) ((w758 rl (by omega) (by omega)).trans erl) (fun q i q0 hq i0 z => cg_nb C9 nbc2 q i q0 hq i0 (z.trans ufn_e))
  rw [ufn_e] at ev4 C11
  refine J_impR (fun Q hq => blk (md := true) [196, 240, 283, 374] 99 GM FM rfl k402 hq) ?_
  simp -implicitDefEqProofs only [r_iconst, r_bipush, r_sipush, r_ldc, r_ldc_w, r_lconst, r_ldc2_w, r_aconst_null, r_iload, r_iload_n, r_lload, r_lload_n, r_aload, r_aload_n, r_istore, r_istore_n, r_lstore, r_lstore_n, r_astore, r_astore_n, r_iinc, r_iadd, r_iaddW, r_isub, r_isubW, r_imul, r_imulW, r_ladd, r_laddW, r_lsub, r_lsubW, r_lmul, r_lmulW, r_iand, r_ior, r_ishl, r_ishr, r_iushr, r_land, r_lor, r_lshl, r_lshr, r_lushr, r_idiv, r_irem, r_ldiv, r_lrem, r_lcmp, r_ineg, r_i2l, r_l2i, r_i2b, r_i2s, r_i2c, r_dup, r_pop, r_dup_x1, r_dup_x2, r_dup2, r_dup2L, r_icmp_eq, r_icmp_ne, r_icmp_lt, r_icmp_ge, r_icmp_gt, r_icmp_le, r_if_eq, r_if_ne, r_if_lt, r_if_ge, r_if_gt, r_if_le, r_acmp_eq, r_acmp_ne, r_ifnull, r_ifnonnull, r_goto, r_nop, r_tsw, r_lsw, r_getfield, r_getfinal, r_putfield, r_getstaticL, r_getstaticR, r_iaload, r_baload, r_saload, r_laload, r_aaload, r_aaloadM, r_iastore, r_bastore, r_zastore, r_sastore, r_lastore, r_aastore, r_alen, r_new, r_newarray, r_anewarray, r_invV, r_invI, r_objI, r_invS, r_acp, r_ireturn, r_zreturn, r_lreturn, r_return, r_areturn, r_athrow, ↓e_pI, ↓e_pL, ↓e_pR, ↓e_lg0, ↓e_lg1, ↓e_tk0, ↓e_tkI0, ↓e_tkI1, ↓e_tkI2, ↓e_tkI3, ↓e_tkI4, ↓e_tkL, ↓e_tkR0_0, ↓e_tkR0_1, ↓e_tkR1_0, ↓e_tkR1_1, ↓e_tkR2_0, ↓e_tkR2_1, ↓e_tkR3_0, ↓e_tkR3_1, ↓e_tkR4_0, ↓e_tkR4_1, ↓e_tkR5_0, ↓e_tkR5_1, ↓e_tkR6_0, ↓e_tkR6_1, ↓e_tkR7_0, ↓e_tkR7_1, ↓e_tkR8_0, ↓e_tkR8_1, ↓e_tkR9_0, ↓e_tkR9_1, ↓e_tkR10_0, ↓e_tkR10_1, ↓e_tkR11_0, ↓e_tkR11_1, ↓e_tkR12_0, ↓e_tkR12_1, ↓e_tkR13_0, ↓e_tkR13_1, ↓e_tkR14_0, ↓e_tkR14_1, ↓e_tkR15_0, ↓e_tkR15_1, ↓e_tkR16_0, ↓e_tkR16_1, ↓e_tkR17_0, ↓e_tkR17_1, ↓e_tkR39_0, ↓e_tkR39_1, ↓e_tkR40_0, ↓e_tkR40_1, ↓e_tkR41_0, ↓e_tkR41_1, ↓e_tkR42_0, ↓e_tkR42_1, ↓e_tkR43_0, ↓e_tkR43_1, ↓e_tkR44_0, ↓e_tkR44_1, ↓e_tkR45_0, ↓e_tkR45_1, ↓e_tkR46_0, ↓e_tkR46_1, ↓e_tkR47_0, ↓e_tkR47_1, ↓e_tkR48_0, ↓e_tkR48_1, ↓e_pv0, ↓e_pv1, ↓e_pv2, ↓e_pv3, ↓e_pv5, ↓e_pvR, ↓e_tsw0, ↓e_tsw1, ↓e_lsw0, ↓e_lsw1, e_kq100, e_kq0, e_kq3, e_kq5, e_kqR0, e_kqR1, e_kqR2, e_kqR3, e_kqR4, e_kqR5, e_kqR6, e_kqR7, e_kqR8, e_kqR9, e_kqR10, e_kqR11, e_kqR12, e_kqR13, e_kqR14, e_kqR15, e_kqR16, e_kqR17, e_kqR39, e_kqR40, e_kqR41, e_kqR42, e_kqR43, e_kqR44, e_kqR45, e_kqR46, e_kqR47, e_kqR48, e_st0I, e_st0R, e_st0L, e_st1N, e_st1I, e_st1L, e_st1R, e_st2, e_wd0, e_wdI, e_wdL, e_wdR, e_c1I, e_c1R, e_gv0, e_gv1, e_gv2, e_gv3, e_gv4, e_gv5, e_gvR0, e_gvR1, e_gvR2, e_gvR3, e_gvR4, e_gvR5, e_gvR6, e_gvR7, e_gvR8, e_gvR9, e_gvR10, e_gvR11, e_gvR12, e_gvR13, e_gvR14, e_gvR15, e_gvR16, e_gvR17, e_gvR39, e_gvR40, e_gvR41, e_gvR42, e_gvR43, e_gvR44, e_gvR45, e_gvR46, e_gvR47, e_gvR48, e_kX0, e_kX1, e_kVv, e_kVx, e_kIv, e_kIx, e_kLv, e_kLx, e_kRv, e_kRx, e_thr, e_lk1, e_ic0, e_ic1, e_jm, st_ap, clr_ap, e_lceq, e_lclt, e_lcgt, nn, ↓reduceIte, Nat.reduceDiv, Nat.reduceMod, Nat.reduceMul, Nat.reduceAdd, Nat.reduceEqDiff, Nat.reduceLeDiff, Int.reduceNatCast, Int.cast_ofNat_Int, Int.reduceSub, Int.reduceMul, Int.reduceNeg, Int.reduceAdd, Int.reduceLE, Int.reduceLT, Int.reduceEq, Int.reduceNe, true_and, and_true, true_or, and_self, ne_eq, not_false_eq_true, Bool.false_eq_true, reduceCtorEq, rd_l1, rd_l2, rd_l3, rd_l4, rd_l5, rd_l6, rd_l7, rd_l8, rd_l9, SB, rd_ge, i2b_2, false_and, and_false, not_true_eq_false, l402_0, l402_12, l402_24, l402_26, l402_38, l402_39, l402_55, l402_59, l402_73, l402_83, l402_111, l402_119, l402_165, l402_196, l402_237, l402_240, l402_279, l402_283, l402_340, l402_364, l402_365, l402_374, l402_400, l402_411, l402_434, l402_454, l402_548, l402_560, l402_562, s402_0, s402_12, s402_24, s402_26, s402_38, s402_39, s402_55, s402_59, s402_73, s402_83, s402_111, s402_119, s402_165, s402_196, s402_237, s402_240, s402_279, s402_283, s402_340, s402_364, s402_365, s402_374, s402_400, s402_411, s402_434, s402_454, s402_548, s402_560, s402_562, zM_18, zM_19, zM_20, zM_21, zM_22, zM_23, zM_24, zM_25, zM_26, zM_27, zM_28, zM_29, zM_30, zM_31, zM_32, zM_33, zM_34, zM_35, zM_36, zM_37, zM_38, zM_39, zM_40, zM_41, zM_42, zM_43, zM_44, zM_45, zM_46, zM_47, zM_48, zM_49, zM_50, zM_51, zM_52, zM_53, zM_54, zM_55, zM_56, zM_57, zM_58, zM_59, zM_60, zM_61, zM_62, zM_63, zM_64, zM_65, zM_66, zM_67, zM_68, zM_69, zM_70, zM_71, zM_72, zM_73, zM_74, zM_75, zM_76, zM_77, zM_78, zM_79, zM_80, zM_81, zM_82, zM_83, zM_84, zM_85, zM_86, zM_87, zM_88, zM_89, zM_90, zM_91, zM_92, zM_93, zM_94, zM_95, zM_96, zM_97, zM_98, zM_99, zM_100, zM_101, zM_102, zM_103, zM_104, zM_105, zM_106, zM_107, zM_108, zM_109, zM_110, zM_111, zM_112, zM_113, zM_114, zM_115, zM_116, zM_117, zM_118, zM_119]
  refine J_posR (by omega) (J_RV ev4 ?_)
  refine J_LI ev3 (J_negL (by omega) ?_)
  have FA : Fz slC h (st h5 (252 + 6 * p + 2) rl (28 + 2 * k2)) := Fz_st (Fz_tr (lyd_f k10 k20 Fk F1) (Fz_mo H5 (fun a j q => Or.inl (Or.inl (by unfold stC; omega))))) (Or.inl (Or.inl (by unfold stC; omega)))
  have GA1 : Fz stM w1 (st w7 59 (16 * p + rl) c2) := Fz_st (Fz_tr (Fz_tr (Fz_tr (Fz_mo G2 (fun a j q => by unfold kpM at q; unfold stM; omega)) (Fz_mo G3 (fun a j q => by unfold stM; omega))) (Fz_tr (Fz_mo G4 (fun a j q => by unfold stM; omega)) (Fz_mo W5 (fun a j q => by unfold stM; omega)))) (Fz_tr (Fz_mo G6 (fun a j q => by unfold stM; omega)) (Fz_mo G7 (fun a j q => by unfold stM; omega)))) (by unfold stM; omega)
  have GA : Fz slM w (st w7 59 (16 * p + rl) c2) := Fz_tr (Fz_mo W1 (fun a j q => Or.inr q)) (Fz_mo GA1 (fun a j q => Or.inl (Or.inl q)))
  have h8e : ∀ a j, a < 252 ∨ 275 < a → (st h5 (252 + 6 * p + 2) rl (28 + 2 * k2)) a j = h1 a j := fun a j x => by rw [st_na (by omega)]; exact h5e a j x
  have h365 : ∀ j, (st h5 (252 + 6 * p + 2) rl (28 + 2 * k2)) 365 j = h 365 j := fun j => by rw [h8e _ _ (by omega), e1 _ _ (by omega) (by omega) (by omega) (by omega) (by omega), Fk _ _ (by unfold olC; omega)]
  have Rb8 : RB (st h5 (252 + 6 * p + 2) rl (28 + 2 * k2)) (st w7 59 (16 * p + rl) c2) := RB_t Rb (fun a j q => h8e a j (by omega)) (fun a j q => GA1 a j (by unfold stM; omega))
  have ez : (st h5 (252 + 6 * p + 2) rl (28 + 2 * k2)) (28 + 2 * k1) 1 = sz := by rw [h8e _ _ (by omega)]; exact s1
  rcases cs with ⟨q3, q4, q5, q6⟩ | ⟨q3, q4, q5, q6⟩
  · refine J_posR q3 (J_negL (by rw [h365, v0.1]; omega) (J_andL (by omega) ?_))
    rw [ez]
    refine p_stands C11 ?_ ?_
    · intro h9 R9 F9
      simp only [e_kIv]
      repeat (first | refine J_andL (by first | omega | (constructor <;> omega)) ?_ | refine J_andR (by first | omega | (constructor <;> omega)) ?_ | refine J_posL (by first | omega | (constructor <;> omega)) ?_ | refine J_negL (by first | omega | (constructor <;> omega)) ?_ | refine J_posR (by first | omega | (constructor <;> omega)) ?_ | refine J_negR (by first | omega | (constructor <;> omega)) ?_)
      exact fin _ _ _ ⟨_, R9⟩ (RB_t Rb8 (fun a j x => F9 a j (by unfold ctC; omega)) (fun _ _ _ => rfl)) (Fz_tr FA (Fz_mo F9 (fun a j g => Or.inl (Or.inl (by unfold ctC at g; unfold stC; omega))))) GA
    · intro h9 w9 R9 F9 G9 _
      simp only [e_kIv]
      repeat (first | refine J_andL (by first | omega | (constructor <;> omega)) ?_ | refine J_andR (by first | omega | (constructor <;> omega)) ?_ | refine J_posL (by first | omega | (constructor <;> omega)) ?_ | refine J_negL (by first | omega | (constructor <;> omega)) ?_ | refine J_posR (by first | omega | (constructor <;> omega)) ?_ | refine J_negR (by first | omega | (constructor <;> omega)) ?_)
      exact fin _ _ _ ⟨_, R9⟩ (RB_t Rb8 (fun a j x => F9 a j (by unfold nsC ctC fnC; omega)) (fun a j x => G9 a j (by unfold unM; omega))) (Fz_tr FA (Fz_mo F9 (fun a j g => Or.inl (Or.inl (by unfold nsC ctC fnC at g; unfold stC; omega))))) (Fz_tr GA (Fz_mo G9 (fun a j g => Or.inl (Or.inl (by unfold unM at g; unfold stM; omega)))))
  · refine J_negR (by omega) (J_posL (by rw [h365, v0.1]; omega) ?_)
    obtain ⟨-, -, -, -, ⟨km, bm, Vm, sm⟩, -, vt, -⟩ := id V
    obtain ⟨kt, bt, Vt, zt⟩ := vt rfl
    have Vm1 := VB_t p0 Vm (fun _ _ _ _ => rfl) rfl (fun a i q => bs a i (by omega) (by omega))
    have Vt1 := VB_t p0 Vt (fun _ _ _ _ => rfl) rfl (fun a i q => bs a i (by omega) (by omega))
    obtain ⟨dm, bbm, -⟩ := VB_d R1 p0 hp1 Vm1
    obtain ⟨dt, bbt, -⟩ := VB_d R1 p0 hp1 Vt1
    have bf : ∀ v b, BOF p v b w1 → v ≠ 1735162214 → v ≠ 1819239265 → BOF p v b (st w7 59 (16 * p + rl) c2) := fun v b B v1 v2 => BOF_k B (by rw [st_na (by omega)]; exact w757) (fun i a b => by rw [st_na (by omega)]; exact w758 i a b) (fun i a b q => by
      have : i ≠ rl := fun e => by rw [e] at q; omega
      have : i ≠ rg := fun e => by rw [e] at q; omega
      rw [st_nj (by omega)]; exact w7e _ _ (by unfold kpM; omega) (by omega) (by omega))
    have sze : ∀ k, bsy h k → (st h5 (252 + 6 * p + 2) rl (28 + 2 * k2)) (28 + 2 * k) 1 = h (28 + 2 * k) 1 := fun k d => by
      have a1 := nlk k d
      have a2 := nlk2 k d
      have a3 := d.2.1
      rw [h8e _ _ (by omega), e1 _ _ (by omega) (by omega) (by omega) (by omega) (by omega), Fk _ _ (by unfold olC; omega)]
    refine p_more (km := km) (bm := bm) (kt := kt) (bt := bt) (k1 := k1) (z := sz) (nnn := nnn) C11 p0 (by rw [st_na (by omega)]; exact w755) (by rw [h365]; exact Vm.2.1) (by rw [h365]; exact Vt.2.1) (Or.inl (Or.inl dm)) (by rw [ufn_n (nlk2 km dm), ufn_n (nlk km dm)]; exact bbm) (bf _ _ Vm1.2.2.1 (by omega) (by omega)) (Or.inl (Or.inl dt)) (by rw [ufn_n (nlk2 kt dt), ufn_n (nlk kt dt)]; exact bbt) (bf _ _ Vt1.2.2.1 (by omega) (by omega)) (by rw [sze km dm]; exact sm.1) (by rw [sze kt dt, zt]; omega) (Or.inl (Or.inr rfl)) ez ?_
    intro h9 w9 z R9 F9 G9
    exact fin _ _ _ R9 (RB_t Rb8 (fun a j x => F9 a j (by unfold stC; omega)) (fun a j x => G9 a j (by unfold stM; omega))) (Fz_tr FA (Fz_mo F9 (fun a j g => Or.inl (Or.inl g)))) (Fz_tr GA (Fz_mo G9 (fun a j g => Or.inl (Or.inl g))))
end
