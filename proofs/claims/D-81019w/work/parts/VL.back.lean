set_option maxRecDepth 100000
def bkC (o5 o6 a j : Int) : Prop := spC a j ∨ bsC o5 o6 a j
def bkM (e a j : Int) : Prop := bsM a j ∨ a = 118 ∨ (a = 17 ∧ (j = 2 ∨ j = 3 ∨ j = 70 ∨ j = 96)) ∨ (a = 115 ∧ (j = e ∨ j = e + 1)) ∨ (52 ≤ a ∧ a ≤ 54)
section
variable {A B : Qt → Prop} {Φ : Out → Int → Mem → Out → Int → Mem → Prop} {KL KM : Qt → Qt} {n m : Int} {h u w : Mem} {s0 L e o5 o6 x7 c : Int} {β : Int → Int} {D : Int → Prop} {M : List (Int × List Int)}
/-- A GLYF TURNED BACK (183, 456) -/
theorem p_back (O : RO h w) (SK : SKT h) (e0 : 0 ≤ e ∧ e + 1 < 40) (es : w 116 e = s0) (eL : w 105 e = L) (e7 : w 104 (e + 1) = x7) (s00 : 0 ≤ s0 ∧ (0 ≤ L ∧ L ≤ 12000) ∧ s0 + L ≤ h 277 1)
    (q5 : 17 ≤ o5 ∧ o5 + 1 < 276 ∧ ((gC.1 (o5 + 1)).2 : Int) = 12000) (q6 : 17 ≤ o6 ∧ o6 + 1 < 276 ∧ ((gC.1 (o6 + 1)).2 : Int) = 12000) (q56 : o5 + 1 < o6 ∨ o6 + 1 < o5)
    (BG0 : BG h o5 12000 []) (BL0 : BL h o6 []) (N : NB β D c u w M) (ml : ∀ y ∈ M, y.2.length ≤ 12000) (cc : c < 79) (fz : w 17 2 = 0) (n0 : 500 ≤ n) (n1 : n < 580)
    (bad : ∀ (c x : Int) (h1 w1 : Mem), (0 < c ∧ c ≤ 60) → w1 17 2 = c → w1 17 3 = x → Fz (bkC o5 o6) h h1 → Fz (bkM e) w w1 → J2 (fun Q => KL Q (.inr n) (n + 1) (flt h1 n c x)) (fun Q => KM Q (.inl none) m w1) Φ)
    (ok : ∀ (G LC : List Int) (bg bl : Int) (h1 w1 : Mem), BL h1 o5 G → BL h1 o6 LC → (G.length : Int) ≤ 12000 → (LC.length : Int) ≤ 12000 → NB β D (c + 2) u w1 ((bl, LC) :: (bg, G) :: M) → w1 115 e = bg → w1 115 (e + 1) = bl → w1 17 2 = 0 → Fz (bkC o5 o6) h h1 → Fz (bkM e) w w1 → J2 (fun Q => KL Q (.inl none) n h1) (fun Q => KM Q (.inl none) m w1) Φ) :
    J2 (fun Q => T gC 183 [vR 25 382, vR 2 277, vI s0, vI L, vI e, vR 2 o5, vR 2 o6, vI x7] n h (KL Q)) (fun Q => T gM 456 [vR 33 17, vI e] m w (KM Q)) Φ := by
  have o3 := O.1.2.2
  have tr := tsum_r (w 21) s0 7
  have r4 := e2_r (w 21) (s0 + 4)
  have ovr : 0 ≤ ovl (w 21) s0 ∧ ovl (w 21) s0 ≤ 10000 := by unfold ovl; split <;> omega
  refine c_bhead O (by omega) n0 n1 (fun nb => ?_) (fun tb => ?_)
  · -- the head is wrong
    refine m_bhead es eL (by omega) (by omega) fz ?_ ?_
    · intro w1 _ a1 a2 W1
      exact bad 56 e h w1 (by omega) a1 a2 Fz_0 (fun a j q => W1 a j (by unfold bkM at q; omega))
    · intro w1 o9 o11 hd a1 a2 W1
      have f1 : w1 17 2 = 0 := by rw [W1 _ _ (by omega)]; exact fz
      refine J_impR (fun Q hq => blk (md := true) [80, 126, 131, 196, 230, 260, 337, 378, 420, 476, 504, 530, 587] 99 GM FM rfl k456 hq) ?_
      simp -implicitDefEqProofs only [r_iconst, r_bipush, r_sipush, r_ldc, r_ldc_w, r_lconst, r_ldc2_w, r_aconst_null, r_iload, r_iload_n, r_lload, r_lload_n, r_aload, r_aload_n, r_istore, r_istore_n, r_lstore, r_lstore_n, r_astore, r_astore_n, r_iinc, r_iadd, r_iaddW, r_isub, r_isubW, r_imul, r_imulW, r_ladd, r_laddW, r_lsub, r_lsubW, r_lmul, r_lmulW, r_iand, r_ior, r_ishl, r_ishr, r_iushr, r_land, r_lor, r_lshl, r_lshr, r_lushr, r_idiv, r_irem, r_ldiv, r_lrem, r_lcmp, r_ineg, r_i2l, r_l2i, r_i2b, r_i2s, r_i2c, r_dup, r_pop, r_dup_x1, r_dup_x2, r_dup2, r_dup2L, r_icmp_eq, r_icmp_ne, r_icmp_lt, r_icmp_ge, r_icmp_gt, r_icmp_le, r_if_eq, r_if_ne, r_if_lt, r_if_ge, r_if_gt, r_if_le, r_acmp_eq, r_acmp_ne, r_ifnull, r_ifnonnull, r_goto, r_nop, r_tsw, r_lsw, r_getfield, r_getfinal, r_putfield, r_getstaticL, r_getstaticR, r_iaload, r_baload, r_saload, r_laload, r_aaload, r_aaloadM, r_iastore, r_bastore, r_zastore, r_sastore, r_lastore, r_aastore, r_alen, r_new, r_newarray, r_anewarray, r_invV, r_invI, r_objI, r_invS, r_acp, r_ireturn, r_zreturn, r_lreturn, r_return, r_areturn, r_athrow, ↓e_pI, ↓e_pL, ↓e_pR, ↓e_lg0, ↓e_lg1, ↓e_tk0, ↓e_tkI0, ↓e_tkI1, ↓e_tkI2, ↓e_tkI3, ↓e_tkI4, ↓e_tkL, ↓e_tkR0_0, ↓e_tkR0_1, ↓e_tkR1_0, ↓e_tkR1_1, ↓e_tkR2_0, ↓e_tkR2_1, ↓e_tkR3_0, ↓e_tkR3_1, ↓e_tkR4_0, ↓e_tkR4_1, ↓e_tkR5_0, ↓e_tkR5_1, ↓e_tkR6_0, ↓e_tkR6_1, ↓e_tkR7_0, ↓e_tkR7_1, ↓e_tkR8_0, ↓e_tkR8_1, ↓e_tkR9_0, ↓e_tkR9_1, ↓e_tkR10_0, ↓e_tkR10_1, ↓e_tkR11_0, ↓e_tkR11_1, ↓e_tkR12_0, ↓e_tkR12_1, ↓e_tkR13_0, ↓e_tkR13_1, ↓e_tkR14_0, ↓e_tkR14_1, ↓e_tkR15_0, ↓e_tkR15_1, ↓e_tkR16_0, ↓e_tkR16_1, ↓e_tkR17_0, ↓e_tkR17_1, ↓e_tkR39_0, ↓e_tkR39_1, ↓e_tkR40_0, ↓e_tkR40_1, ↓e_tkR41_0, ↓e_tkR41_1, ↓e_tkR42_0, ↓e_tkR42_1, ↓e_tkR43_0, ↓e_tkR43_1, ↓e_tkR44_0, ↓e_tkR44_1, ↓e_tkR45_0, ↓e_tkR45_1, ↓e_tkR46_0, ↓e_tkR46_1, ↓e_tkR47_0, ↓e_tkR47_1, ↓e_tkR48_0, ↓e_tkR48_1, ↓e_pv0, ↓e_pv1, ↓e_pv2, ↓e_pv3, ↓e_pv5, ↓e_pvR, ↓e_tsw0, ↓e_tsw1, ↓e_lsw0, ↓e_lsw1, e_kq100, e_kq0, e_kq3, e_kq5, e_kqR0, e_kqR1, e_kqR2, e_kqR3, e_kqR4, e_kqR5, e_kqR6, e_kqR7, e_kqR8, e_kqR9, e_kqR10, e_kqR11, e_kqR12, e_kqR13, e_kqR14, e_kqR15, e_kqR16, e_kqR17, e_kqR39, e_kqR40, e_kqR41, e_kqR42, e_kqR43, e_kqR44, e_kqR45, e_kqR46, e_kqR47, e_kqR48, e_st0I, e_st0R, e_st0L, e_st1N, e_st1I, e_st1L, e_st1R, e_st2, e_wd0, e_wdI, e_wdL, e_wdR, e_c1I, e_c1R, e_gv0, e_gv1, e_gv2, e_gv3, e_gv4, e_gv5, e_gvR0, e_gvR1, e_gvR2, e_gvR3, e_gvR4, e_gvR5, e_gvR6, e_gvR7, e_gvR8, e_gvR9, e_gvR10, e_gvR11, e_gvR12, e_gvR13, e_gvR14, e_gvR15, e_gvR16, e_gvR17, e_gvR39, e_gvR40, e_gvR41, e_gvR42, e_gvR43, e_gvR44, e_gvR45, e_gvR46, e_gvR47, e_gvR48, e_kX0, e_kX1, e_kVv, e_kVx, e_kIv, e_kIx, e_kLv, e_kLx, e_kRv, e_kRx, e_thr, e_lk1, e_ic0, e_ic1, e_jm, st_ap, clr_ap, e_lceq, e_lclt, e_lcgt, nn, ↓reduceIte, Nat.reduceDiv, Nat.reduceMod, Nat.reduceMul, Nat.reduceAdd, Nat.reduceEqDiff, Nat.reduceLeDiff, Int.reduceNatCast, Int.cast_ofNat_Int, Int.reduceSub, Int.reduceMul, Int.reduceNeg, Int.reduceAdd, Int.reduceLE, Int.reduceLT, Int.reduceEq, Int.reduceNe, true_and, and_true, true_or, and_self, ne_eq, not_false_eq_true, Bool.false_eq_true, reduceCtorEq, rd_l1, rd_l2, rd_l3, rd_l4, rd_l5, rd_l6, rd_l7, rd_l8, rd_l9, SB, rd_ge, i2b_2, false_and, and_false, not_true_eq_false, l456_0, l456_80, l456_89, l456_125, l456_126, l456_131, l456_194, l456_196, l456_228, l456_230, l456_239, l456_259, l456_260, l456_277, l456_318, l456_337, l456_377, l456_378, l456_394, l456_404, l456_420, l456_454, l456_460, l456_475, l456_476, l456_504, l456_513, l456_530, l456_570, l456_587, l456_626, s456_0, s456_80, s456_89, s456_125, s456_126, s456_131, s456_194, s456_196, s456_228, s456_230, s456_239, s456_259, s456_260, s456_277, s456_318, s456_337, s456_377, s456_378, s456_394, s456_404, s456_420, s456_454, s456_460, s456_475, s456_476, s456_504, s456_513, s456_530, s456_570, s456_587, s456_626, zM_18, zM_19, zM_20, zM_21, zM_22, zM_23, zM_24, zM_25, zM_26, zM_27, zM_28, zM_29, zM_30, zM_31, zM_32, zM_33, zM_34, zM_35, zM_36, zM_37, zM_38, zM_39, zM_40, zM_41, zM_42, zM_43, zM_44, zM_45, zM_46, zM_47, zM_48, zM_49, zM_50, zM_51, zM_52, zM_53, zM_54, zM_55, zM_56, zM_57, zM_58, zM_59, zM_60, zM_61, zM_62, zM_63, zM_64, zM_65, zM_66, zM_67, zM_68, zM_69, zM_70, zM_71, zM_72, zM_73, zM_74, zM_75, zM_76, zM_77, zM_78, zM_79, zM_80, zM_81, zM_82, zM_83, zM_84, zM_85, zM_86, zM_87, zM_88, zM_89, zM_90, zM_91, zM_92, zM_93, zM_94, zM_95, zM_96, zM_97, zM_98, zM_99, zM_100, zM_101, zM_102, zM_103, zM_104, zM_105, zM_106, zM_107, zM_108, zM_109, zM_110, zM_111, zM_112, zM_113, zM_114, zM_115, zM_116, zM_117, zM_118, zM_119]
      refine J_andR (by unfold i64; omega) (J_negR (fun z => nb ⟨hd, by omega⟩) (J_RI (m_fails f1) ?_))
      refine bad 56 e h _ (by omega) (by rw [st_nj (by omega), st_eq]) (st_eq _ _ _ _) Fz_0 (Fz_st (Fz_st (fun a j q => W1 a j ?_) (by unfold bkM; omega)) (by unfold bkM; omega))
      intro z
      refine q ?_
      unfold bkM bsM tgM
      omega
  obtain ⟨hd, sm⟩ := tb
  obtain ⟨d1, d2, d3, d4, d5⟩ := id hd
  have r6 := e2_r (w 21) (s0 + 6)
  refine m_bhead es eL (by omega) (by omega) fz (fun _ q _ _ _ => absurd hd q) ?_
  intro w1 o9 o11 _ g70 g1 W1
  have g2 : ∀ k : Nat, k < 7 → w1 117 k = s0 + 36 + tsum (w 21) s0 k ∧ w1 118 k = s0 + 36 + tsum (w 21) s0 (k + 1) := fun k hk => by
    obtain ⟨a1, a2⟩ := g1 k hk
    have t1 := tsum_m (w 21) s0 k (7 - k)
    have t2 := tsum_m (w 21) s0 (k + 1) (6 - k)
    rw [show k + (7 - k) = 7 by omega] at t1
    rw [show k + 1 + (6 - k) = 7 by omega] at t2
    rw [a1, a2, if_neg (by omega), if_neg (by omega)]
    omega
  have w1x : ∀ a j, ¬ ((a = 17 ∧ j = 70) ∨ a = 117 ∨ a = 118) → w1 a j = w a j := W1
  have W1b : Fz (bkM e) w w1 := fun a j q => W1 a j (fun z => q (by unfold bkM bsM tgM; omega))
  have e21 : w1 21 = w 21 := funext fun j => w1x _ _ (by omega)
  have f1 : w1 17 2 = 0 := by rw [w1x _ _ (by omega)]; exact fz
  refine c_split O SK (by omega) d4 (fun h1 o16 C F1 => ?_)
  have h1x : ∀ a j, ¬ spC a j → h1 a j = h a j := F1
  have SK1 : SKT (st h1 382 5 1) := fun k k0 k1 => by rw [st_na (by omega), h1x _ _ (by unfold spC; omega)]; exact SK k k0 k1
  have C1 : TCUT (w 21) s0 7 (st h1 382 5 1) := fun q hq => by
    obtain ⟨c1, c2, c3⟩ := C q hq
    exact ⟨by rw [st_na (by omega)]; exact c1, by rw [st_na (by omega)]; exact c2, fun i i0 i1 => by rw [st_na (by omega)]; exact c3 i i0 i1⟩
  have S1 : TSp (st h1 382 5 1) w1 := TCUT_p O SK1 (by omega) (by omega) C1 g2 e21
  have z384 : st h1 382 5 1 384 5 = 0 := (C1 5 (by omega)).1
  have F2 : Fz (bkC o5 o6) h (st h1 382 5 1) := Fz_st (fun a j q => F1 a j (fun z => q (Or.inl z))) (Or.inr (Or.inl (by unfold tgC; omega)))
  have h2x : ∀ a j, a < 380 → st h1 382 5 1 a j = h a j := fun a j q => by rw [st_na (by omega)]; exact h1x _ _ (by unfold spC; omega)
  have f2 : st h1 382 5 1 382 5 = 1 := st_eq _ _ _ _
  generalize st h1 382 5 1 = h2 at *
  have BLx : BL h2 o6 [] := ⟨by rw [h2x _ _ (by omega)]; exact BL0.1, fun i hi => by rw [h2x _ _ (by omega)]; exact BL0.2 i hi⟩
  refine p_bmid (bm := w1 117 5) (ovx := ovl (w 21) s0) (gn := e2 (w 21) (s0 + 4)) S1 f2 ⟨g70, d4⟩ rfl (by omega) (by omega) (by unfold ovl; split <;> omega) q6 BLx f1 z384 n0 n1 ?_ ?_
  · intro h3 w3 a1 a2 F3 W3
    exact bad 57 0 h3 w3 (by omega) a1 a2 (Fz_tr F2 (fun a j q => F3 a j (fun z => q (Or.inr (by unfold bsC tgC; rcases z with z | z; unfold tsC at z; omega; exact Or.inr (Or.inr (Or.inr z))))))) (Fz_tr W1b (fun a j q => W3 a j (fun z => q (by unfold bkM; omega))))
  · intro h3 w3 S3 f3 b3 c3 BL3 OL3 F3 W3
    have F3b : Fz (bkC o5 o6) h h3 := Fz_tr F2 (fun a j q => F3 a j (fun z => q (Or.inr (by unfold bsC tgC; rcases z with z | z; unfold tsC at z; omega; exact Or.inr (Or.inr (Or.inr z))))))
    have W3b : Fz (bkM e) w w3 := Fz_tr W1b (fun a j q => W3 a j (fun z => q (by unfold bkM bsM tgM; omega)))
    have h3x : ∀ a j, a < 380 → ¬ bdC o6 a j → h3 a j = h a j := fun a j q1 q2 => by rw [F3 a j (fun z => by rcases z with z | z; unfold tsC at z; omega; exact q2 z)]; exact h2x a j q1
    have w3x : ∀ a j, ¬ ((a = 17 ∧ (j = 70 ∨ j = 96)) ∨ a = 117 ∨ a = 118) → w3 a j = w a j := fun a j q => by rw [W3 a j (by omega)]; exact w1x a j (by omega)
    have O3 : RO h3 w3 := by
      have a1 : h3 277 1 = h 277 1 := h3x _ _ (by omega) (by unfold bdC; omega)
      refine ⟨⟨by rw [a1, w3x _ _ (by omega)]; exact O.1.1, by rw [a1]; exact O.1.2.1, by rw [a1]; exact o3⟩, fun i i0 i1 => ?_⟩
      rw [a1] at i1
      rw [h3x _ _ (by omega) (by unfold bdC; omega), w3x _ _ (by omega)]; exact O.2 i i0 i1
    have f3' : w3 17 2 = 0 := by rw [w3x _ _ (by omega)]; exact fz
    have g70' : w3 17 70 = e2 (w 21) (s0 + 4) := by rw [W3 _ _ (by omega)]; exact g70
    have s118 : w3 118 6 = s0 + 36 + tsum (w 21) s0 7 := by rw [W3 _ _ (by omega)]; exact (g2 6 (by omega)).2
    have h77 : h3 277 1 = h 277 1 := h3x _ _ (by omega) (by unfold bdC; omega)
    refine p_bloop (bm := w1 117 5) (gn := e2 (w 21) (s0 + 4)) S3 f3 ⟨g70', d4⟩ rfl b3 c3 O3 ?_ q5 q6 q56 (BG_t BG0 (fun a j q => h3x a j (by omega) (by unfold bdC; omega))) OL3 BL3 f3' n0 n1 ?_ ?_
    · unfold ovl at sm ⊢
      by_cases z : e2 (w 21) (s0 + 2) = 1
      · rw [if_pos z] at sm ⊢
        rw [if_pos z]
        exact Or.inr ⟨rfl, by omega, s118, by omega, by omega⟩
      · rw [if_neg z, if_neg z]
        exact Or.inl ⟨rfl, rfl⟩
    · intro k h4 w4 a1 a2 F4 W4
      exact bad 57 k h4 w4 (by omega) a1 a2 (Fz_tr F3b (fun a j q => F4 a j (fun z => q (Or.inr z)))) (Fz_tr W3b (fun a j q => W4 a j (fun z => q (by unfold bkM; rcases z with z | z; exact Or.inl z; omega))))
    · intro G V' h4 w4 o S4 B4 L4 bG gl C4 vr vv z4 g4 F4 W4
      have F4b : Fz (bkC o5 o6) h h4 := Fz_tr F3b (fun a j q => F4 a j (fun z => q (Or.inr z)))
      have W4b : Fz (bkM e) w (st w4 119 (e2 (w 21) (s0 + 4)) G.length) := Fz_st (Fz_tr W3b (fun a j q => W4 a j (fun z => q (Or.inl z)))) (Or.inl (Or.inr (Or.inr (Or.inr rfl))))
      have w4x : ∀ a j, ¬ bkM e a j → st w4 119 (e2 (w 21) (s0 + 4)) G.length a j = w a j := W4b
      have L5 : OL (st w4 119 (e2 (w 21) (s0 + 4)) G.length) G := ⟨by rw [st_na (by omega)]; exact L4.1, fun i a b => by rw [st_na (by omega)]; exact L4.2 i a b⟩
      have v119 : (G.length : Int) ≤ 12000 → ∀ j : Nat, (j : Int) ≤ e2 (w 21) (s0 + 4) → st w4 119 (e2 (w 21) (s0 + 4)) G.length 119 j = V' j ∧ 0 ≤ V' j ∧ V' j ≤ 12000 := fun z j hj => by
        refine ⟨?_, vr j hj⟩
        obtain ⟨a1, a2⟩ := vv z
        by_cases y : (j : Int) = e2 (w 21) (s0 + 4)
        · rw [y, st_eq, ← a1, show (e2 (w 21) (s0 + 4)).toNat = j by omega]
        · rw [st_nj (by omega), ← a2 j (by omega)]
      have S5 : TSp h4 (st w4 119 (e2 (w 21) (s0 + 4)) G.length) := TSp_t S4 (fun _ _ _ => rfl) (fun a j q => st_na (by omega))
      have g5 : st w4 119 (e2 (w 21) (s0 + 4)) G.length 17 70 = e2 (w 21) (s0 + 4) := by rw [st_na (by omega)]; exact g4
      have z5 : st w4 119 (e2 (w 21) (s0 + 4)) G.length 17 2 = 0 := by rw [st_na (by omega)]; exact z4
      have e52 : ∀ a j, 52 ≤ a ∧ a ≤ 54 → st w4 119 (e2 (w 21) (s0 + 4)) G.length a j = w a j := fun a j q => by
        rw [st_na (by omega), W4 _ _ (by unfold bsM tgM olM; omega)]; exact w3x _ _ (by omega)
      have e104 : st w4 119 (e2 (w 21) (s0 + 4)) G.length 104 (e + 1) = x7 := by rw [w4x _ _ (by unfold bkM bsM tgM olM; omega)]; exact e7
      generalize st w4 119 (e2 (w 21) (s0 + 4)) G.length = w5 at *
      refine p_bend (G := G) (V' := V') S5 ⟨g5, d4⟩ (by omega) (by omega) B4 L5 gl C4 (by omega) e0 e104 z5 n0 n1 ?_ ?_
      · intro c x w6 c0 a1 a2 W6
        exact bad c x h4 w6 c0 a1 a2 F4b (Fz_tr W4b (fun a j q => W6 a j (fun z => q (by unfold bkM; omega))))
      · intro gl2 ex BLg
        have lk := lcs_l (e2 (w 21) (s0 + 6)) V' ((e2 (w 21) (s0 + 4)).toNat + 1)
        refine m_bput (V' := V') (NB_fr N e52) ml cc ⟨g5, d4⟩ L5 bG gl2 (by omega) ex e0 (v119 gl2) ?_
        intro bg bl w6 N6 a1 a2 X6
        refine ok G _ bg bl h4 w6 BLg C4 gl2 ?_ N6 a1 a2 (by rw [X6 _ _ (by omega) (by omega)]; exact z5) F4b (Fz_tr W4b (fun a j q => X6 a j ?_ ?_))
        · by_cases z : e2 (w 21) (s0 + 6) = 0
          · rw [if_pos z] at lk; omega
          · rw [if_neg z] at lk; omega
        · unfold bkM at q; omega
        · unfold bkM at q; omega
end
