set_option maxRecDepth 100000
theorem slc_eL {g : Int → Int} {f : Int} {L : List Int} (e : ∀ i : Nat, i < L.length → g (f + i) = L.getD i 0) : slc g f L.length = L := by
  apply List.ext_getElem (slc_l _ _ _)
  intro i h1 h2
  have a := slc_g g f L.length i h2
  have g1 : ∀ {M : List Int} {i : Nat} (q : i < M.length), M.getD i 0 = M[i] := fun q => by rw [List.getD_eq_getElem?_getD, List.getElem?_eq_getElem q]; rfl
  rw [g1 h1] at a
  rw [a, e i h2, g1 h2]
theorem byt_sz (z : Int → Int) : ∀ k : Nat, byt (szL z k) := by
  intro k
  induction k with
  | zero => exact byt_0
  | succ k ih => exact byt_a ih (f4_r _)
theorem byt_cn {L : Int → List Int} : ∀ k : Nat, (∀ i : Int, 0 ≤ i → i < k → byt (L i)) → byt (cnL L k) := by
  intro k
  induction k with
  | zero => intro _; exact byt_0
  | succ k ih => intro b; exact byt_a (ih (fun i x y => b i x (by omega))) (b k (by omega) (by omega))
theorem byt_ov (ov : Int → Int) (G : Int) : ∀ k : Nat, byt (ovL ov G k) := by
  intro k
  induction k with
  | zero => exact byt_0
  | succ k ih => exact byt_a ih (byt_1 _)
theorem cnL_b {L : Int → List Int} {b : Nat} : ∀ k : Nat, (∀ i : Int, 0 ≤ i → i < k → (L i).length ≤ b) → (cnL L k).length ≤ b * k := by
  intro k
  induction k with
  | zero => intro _; simp [cnL]
  | succ k ih => intro e; have := ih (fun i x y => e i x (by omega)); have := e k (by omega) (by omega); rw [cnL, List.length_append, Nat.mul_add, Nat.mul_one]; omega
section
variable {A B : Qt → Prop} {Φ : Out → Int → Mem → Out → Int → Mem → Prop} {KL KM : Qt → Qt} {n m : Int} {h w : Mem}
/-- A GLYF IS TURNED (179 / 422) -/
theorem p_turnF {p : Int} {P : List Int} (Vw : VWG p 1 h w) (p0 : 0 ≤ p ∧ p < 4) (S : SKT h) (B0 : BG h 430 16000 []) (PL : PLn w P) (pl : (P.length : Int) ≤ 590000)
    (fin : ∀ (h1 w1 : Mem) (Z : List Int), VWG p 1 h1 w1 → BG h1 430 16000 Z → byt Z → PLn w1 (P ++ Z) → ((Z.length : Int) ≤ 600000) → Fz tfC h h1 → Fz tfM w w1 → J2 (fun Q => KL Q (.inl none) n h1) (fun Q => KM Q (.inl none) m w1) Φ) :
    J2 (fun Q => T gC 179 [vR 25 382, vR 20 365, vR 2 430] n h (KL Q)) (fun Q => T gM 422 [vR 33 17, vI p] m w (KM Q)) Φ := by
  obtain ⟨wg, eg, g7, Fg⟩ := m_good (m := m) Vw p0 rfl
  have Vg : VWG p 1 h wg := VWG_t p0 Vw (fun _ _ _ => rfl) (fun a i q => by
    rcases q with q | ⟨q1, q2⟩
    · exact Fg a i (by unfold vgM; omega)
    · rw [q1]; exact g7 i q2.1 q2.2)
  obtain ⟨⟨v0, v01, v02⟩, -, ⟨v2, v21, v22⟩, -⟩ := id Vg
  have PLg : PLn wg P := PLn_t PL (fun a j q => Fg a j (by unfold plM at q; unfold vgM; omega))
  generalize eG : wg 17 70 = G at v0 v01 v02
  generalize efm : wg 17 72 = fm at v2 v21 v22
  refine c_tbeg (G := G) (bits := (G + 31) / 32 * 4) S v0 ⟨v01, v02⟩ rfl ?_
  intro h1 S1 F1
  refine J_impR (fun Q hq => T_go (md := true) [some (vR 33 17), some (vI p), none, none, none, none, none, none] [9, 43, 65, 123, 210, 237, 247, 292, 319] 99 (by decide) rfl (Nat.le_of_ble_eq_true rfl) GM FM rfl k422 hq) ?_
  simp -implicitDefEqProofs only [r_iconst, r_bipush, r_sipush, r_ldc, r_ldc_w, r_lconst, r_ldc2_w, r_aconst_null, r_iload, r_iload_n, r_lload, r_lload_n, r_aload, r_aload_n, r_istore, r_istore_n, r_lstore, r_lstore_n, r_astore, r_astore_n, r_iinc, r_iadd, r_iaddW, r_isub, r_isubW, r_imul, r_imulW, r_ladd, r_laddW, r_lsub, r_lsubW, r_lmul, r_lmulW, r_iand, r_ior, r_ishl, r_ishr, r_iushr, r_land, r_lor, r_lshl, r_lshr, r_lushr, r_idiv, r_irem, r_ldiv, r_lrem, r_lcmp, r_ineg, r_i2l, r_l2i, r_i2b, r_i2s, r_i2c, r_dup, r_pop, r_dup_x1, r_dup_x2, r_dup2, r_dup2L, r_icmp_eq, r_icmp_ne, r_icmp_lt, r_icmp_ge, r_icmp_gt, r_icmp_le, r_if_eq, r_if_ne, r_if_lt, r_if_ge, r_if_gt, r_if_le, r_acmp_eq, r_acmp_ne, r_ifnull, r_ifnonnull, r_goto, r_nop, r_tsw, r_lsw, r_getfield, r_getfinal, r_putfield, r_getstaticL, r_getstaticR, r_iaload, r_baload, r_saload, r_laload, r_aaload, r_aaloadM, r_iastore, r_bastore, r_zastore, r_sastore, r_lastore, r_aastore, r_alen, r_new, r_newarray, r_anewarray, r_invV, r_invI, r_objI, r_invS, r_acp, r_ireturn, r_zreturn, r_lreturn, r_return, r_areturn, r_athrow, ↓e_pI, ↓e_pL, ↓e_pR, ↓e_lg0, ↓e_lg1, ↓e_tk0, ↓e_tkI0, ↓e_tkI1, ↓e_tkI2, ↓e_tkI3, ↓e_tkI4, ↓e_tkL, ↓e_tkR0_0, ↓e_tkR0_1, ↓e_tkR1_0, ↓e_tkR1_1, ↓e_tkR2_0, ↓e_tkR2_1, ↓e_tkR3_0, ↓e_tkR3_1, ↓e_tkR4_0, ↓e_tkR4_1, ↓e_tkR5_0, ↓e_tkR5_1, ↓e_tkR6_0, ↓e_tkR6_1, ↓e_tkR7_0, ↓e_tkR7_1, ↓e_tkR8_0, ↓e_tkR8_1, ↓e_tkR9_0, ↓e_tkR9_1, ↓e_tkR10_0, ↓e_tkR10_1, ↓e_tkR11_0, ↓e_tkR11_1, ↓e_tkR12_0, ↓e_tkR12_1, ↓e_tkR13_0, ↓e_tkR13_1, ↓e_tkR14_0, ↓e_tkR14_1, ↓e_tkR15_0, ↓e_tkR15_1, ↓e_tkR16_0, ↓e_tkR16_1, ↓e_tkR17_0, ↓e_tkR17_1, ↓e_tkR39_0, ↓e_tkR39_1, ↓e_tkR40_0, ↓e_tkR40_1, ↓e_tkR41_0, ↓e_tkR41_1, ↓e_tkR42_0, ↓e_tkR42_1, ↓e_tkR43_0, ↓e_tkR43_1, ↓e_tkR44_0, ↓e_tkR44_1, ↓e_tkR45_0, ↓e_tkR45_1, ↓e_tkR46_0, ↓e_tkR46_1, ↓e_tkR47_0, ↓e_tkR47_1, ↓e_tkR48_0, ↓e_tkR48_1, ↓e_pv0, ↓e_pv1, ↓e_pv2, ↓e_pv3, ↓e_pv5, ↓e_pvR, ↓e_tsw0, ↓e_tsw1, ↓e_lsw0, ↓e_lsw1, e_kq100, e_kq0, e_kq3, e_kq5, e_kqR0, e_kqR1, e_kqR2, e_kqR3, e_kqR4, e_kqR5, e_kqR6, e_kqR7, e_kqR8, e_kqR9, e_kqR10, e_kqR11, e_kqR12, e_kqR13, e_kqR14, e_kqR15, e_kqR16, e_kqR17, e_kqR39, e_kqR40, e_kqR41, e_kqR42, e_kqR43, e_kqR44, e_kqR45, e_kqR46, e_kqR47, e_kqR48, e_st0I, e_st0R, e_st0L, e_st1N, e_st1I, e_st1L, e_st1R, e_st2, e_wd0, e_wdI, e_wdL, e_wdR, e_c1I, e_c1R, e_gv0, e_gv1, e_gv2, e_gv3, e_gv4, e_gv5, e_gvR0, e_gvR1, e_gvR2, e_gvR3, e_gvR4, e_gvR5, e_gvR6, e_gvR7, e_gvR8, e_gvR9, e_gvR10, e_gvR11, e_gvR12, e_gvR13, e_gvR14, e_gvR15, e_gvR16, e_gvR17, e_gvR39, e_gvR40, e_gvR41, e_gvR42, e_gvR43, e_gvR44, e_gvR45, e_gvR46, e_gvR47, e_gvR48, e_kX0, e_kX1, e_kVv, e_kVx, e_kIv, e_kIx, e_kLv, e_kLx, e_kRv, e_kRx, e_thr, e_lk1, e_ic0, e_ic1, e_jm, st_ap, clr_ap, e_lceq, e_lclt, e_lcgt, nn, ↓reduceIte, Nat.reduceDiv, Nat.reduceMod, Nat.reduceMul, Nat.reduceAdd, Nat.reduceEqDiff, Nat.reduceLeDiff, Int.reduceNatCast, Int.cast_ofNat_Int, Int.reduceSub, Int.reduceMul, Int.reduceNeg, Int.reduceAdd, Int.reduceLE, Int.reduceLT, Int.reduceEq, Int.reduceNe, true_and, and_true, true_or, and_self, ne_eq, not_false_eq_true, Bool.false_eq_true, reduceCtorEq, rd_l1, rd_l2, rd_l3, rd_l4, rd_l5, rd_l6, rd_l7, rd_l8, rd_l9, SB, rd_ge, i2b_2, false_and, and_false, not_true_eq_false, l422_0, l422_9, l422_28, l422_43, l422_60, l422_65, l422_123, l422_147, l422_162, l422_163, l422_171, l422_187, l422_188, l422_210, l422_234, l422_237, l422_247, l422_283, l422_289, l422_292, l422_319, l422_367, l422_368, l422_377, l422_389, s422_0, s422_9, s422_28, s422_43, s422_60, s422_65, s422_123, s422_147, s422_162, s422_163, s422_171, s422_187, s422_188, s422_210, s422_234, s422_237, s422_247, s422_283, s422_289, s422_292, s422_319, s422_367, s422_368, s422_377, s422_389, zM_18, zM_19, zM_20, zM_21, zM_22, zM_23, zM_24, zM_25, zM_26, zM_27, zM_28, zM_29, zM_30, zM_31, zM_32, zM_33, zM_34, zM_35, zM_36, zM_37, zM_38, zM_39, zM_40, zM_41, zM_42, zM_43, zM_44, zM_45, zM_46, zM_47, zM_48, zM_49, zM_50, zM_51, zM_52, zM_53, zM_54, zM_55, zM_56, zM_57, zM_58, zM_59, zM_60, zM_61, zM_62, zM_63, zM_64, zM_65, zM_66, zM_67, zM_68, zM_69, zM_70, zM_71, zM_72, zM_73, zM_74, zM_75, zM_76, zM_77, zM_78, zM_79, zM_80, zM_81, zM_82, zM_83, zM_84, zM_85, zM_86, zM_87, zM_88, zM_89, zM_90, zM_91, zM_92, zM_93, zM_94, zM_95, zM_96, zM_97, zM_98, zM_99, zM_100, zM_101, zM_102, zM_103, zM_104, zM_105, zM_106, zM_107, zM_108, zM_109, zM_110, zM_111, zM_112, zM_113, zM_114, zM_115, zM_116, zM_117, zM_118, zM_119]
  refine J_RI eg ?_
  refine m_tbeg (G := G) (bits := (G + 31) / 32 * 4) eG ⟨v01, v02⟩ rfl ?_
  intro w1 M1 W1
  generalize ebits : (G + 31) / 32 * 4 = bits at S1 M1
  have hb : (bits = 4 ∧ G ≤ 32) ∨ (bits = 8 ∧ 32 < G) := by omega
  have V1 : VWG p 1 h1 w1 := VWG_t p0 Vg (fun a i q => F1 a i (by unfold tnC; omega)) (fun a i q => W1 a i (by unfold tnM; omega))
  have T1 : TRN 0 bits (fun k => if k = 5 then rpz bits.toNat else []) (rpz bits.toNat) [] 0 0 h1 w1 := by
    refine ⟨S1, M1, by rw [List.append_nil]; exact if_pos rfl, by unfold rpz; rw [List.length_replicate]; omega, by simp, fun k a b c => ?_, ovn_0, Or.inl ⟨rfl, fun i a b => by omega⟩, fun i a b => by omega, fun k => ?_⟩
    · show (((if k = 5 then rpz bits.toNat else [] : List Int).length : Nat) : Int) ≤ _
      rw [if_neg c, Int.mul_zero]; simp
    · show byt (if k = 5 then rpz bits.toNat else [])
      split
      · exact byt_z
      · exact byt_0
  refine lp (F := fun g => ∀ (h2 w2 : Mem) (x4 : Int) (L : Int → List Int) (Bs X : List Int) (N : Nat) (o6 o7 : Option V), VWG p 1 h2 w2 → TRN g bits L Bs X N x4 h2 w2 → Fz trnC h1 h2 → Fz trnM w1 w2 → J2 (fun Q => T_at gC 179 74 [some (vR 25 382), some (vR 20 365), some (vR 2 430), some (vI bits), some (vI x4), some (vI g), none, none] [] n h2 (KL Q)) (fun Q => T_at gM 422 65 [some (vR 33 17), some (vI p), some (vI bits), some (vL (s64 N)), none, some (vI g), o6, o7] [] m w2 (KM Q)) Φ) (b := 0) (n := G) (by omega) ?_ ?_ h1 w1 0 _ _ _ 0 _ _ V1 T1 Fz_0 Fz_0
  · intro g g0 g1 ih h2 w2 x4 L Bs X N o6 o7 V2 T2 F2 W2
    have e70 : w2 17 70 = G := by rw [W2 _ _ (by unfold trnM glM tnM; omega), W1 _ _ (by unfold tnM; omega)]; exact eG
    refine p_turn1 (bits := bits) V2 p0 (by omega) (by omega) T2 ?_
    intro h3 w3 x4' L' Bs' X' N' o6 o7 V3 T3 F3 W3
    exact ih h3 w3 x4' L' Bs' X' N' o6 o7 V3 T3 (Fz_tr F2 F3) (Fz_tr W2 W3)
  · intro h2 w2 x4 L Bs X N o6 o7 V2 T2 F2 W2
    obtain ⟨t1, t2, t3, t4, t5, t6, t7, t8, t9, t10⟩ := T2
    have e70 : w2 17 70 = G := by rw [W2 _ _ (by unfold trnM glM tnM; omega), W1 _ _ (by unfold tnM; omega)]; exact eG
    have e72 : w2 17 72 = fm := by rw [W2 _ _ (by unfold trnM glM tnM; omega), W1 _ _ (by unfold tnM; omega)]; exact efm
    have l5 : ((Bs ++ X).length : Int) ≤ 520 := by rw [List.length_append]; omega
    have P2 : PLn w2 P := PLn_t PLg (fun a j q => by rw [W2 _ _ (by unfold plM at q; unfold trnM glM tnM; omega), W1 _ _ (by unfold plM at q; unfold tnM; omega)])
    have x01 : x4 = 0 ∨ x4 = 1 := by rcases t8 with ⟨a, -⟩ | ⟨a, -⟩ <;> omega
    have xN : x4 = 0 ↔ N = 0 := by
      rw [ovn_z t7]
      rcases t8 with ⟨a, b⟩ | ⟨a, i, b, c, d⟩
      · exact ⟨fun _ => b, fun _ => a⟩
      · exact ⟨fun z => by omega, fun z => absurd (z i b c) d⟩
    refine c_tend (G := G) (fm := fm) t1 t3 l5 (by omega) (by rw [F2 _ _ (by unfold trnC glC tnC; omega), F1 _ _ (by unfold tnC; omega)]; exact v0) ⟨v01, v02⟩ (by rw [F2 _ _ (by unfold trnC glC tnC; omega), F1 _ _ (by unfold tnC; omega)]; exact v2) t9 x01 (BG_t B0 (fun a j q => by rw [F2 _ _ (by unfold trnC glC tnC; omega), F1 _ _ (by unfold tnC; omega)])) ?_
    intro h3 M BM gMM nM F3
    have c27 : ∀ k, 0 ≤ k → k < 7 → k ≠ 5 → 0 ≤ cap k ∧ cap k * G ≤ cap k * 64 ∧ 20000 * k + cap k * 64 ≤ 140000 ∧ cap k * 64 ≤ 70000 := fun k a b c => by
      have c1 : 0 ≤ cap k := by unfold cap; repeat' split <;> omega
      refine ⟨c1, Int.mul_le_mul_of_nonneg_left v02 c1, ?_, ?_⟩
      · unfold cap; repeat' split <;> omega
      · unfold cap; repeat' split <;> omega
    have ll : ∀ k, 0 ≤ k → k < 7 → ((L k).length : Int) ≤ 70000 ∧ 20000 * k + (L k).length ≤ 140000 := by
      intro k a b
      by_cases e : k = 5
      · rw [e, t3]; omega
      · have := c27 k a b e; have := t6 k a b e; omega
    have key : ∀ (w3 : Mem), PLn w3 (P ++ hdL x4 G fm) → Fz plM w2 w3 → J2 (fun Q => KL Q (.inl none) n h3) (fun Q => T_at gM 422 210 [some (vR 33 17), some (vI p), some (vI bits), some (vL (s64 N)), none, some (vI 0), o6, o7] [] m w3 (KM Q)) Φ := by
      intro w3 P3 W3
      have e110 : ∀ k, 0 ≤ k → k < 7 → w3 110 k = (L k).length := fun k a b => by rw [W3 _ _ (by unfold plM; omega)]; exact (t2 k a b).1
      refine m_tend (ov := h2 387) (G := G) P3 (by rw [List.length_append]; show ((P.length + 8 : Nat) : Int) ≤ _; omega) (fun k a b => by rw [e110 k a b]; have := ll k a b; omega) ⟨by rw [W3 _ _ (by unfold plM; omega)]; exact e70, v01, v02⟩ t7 ?_
      intro w4 P4 W4
      have ec : ∀ k, 0 ≤ k → k < 7 → ((slc (fun j => i2b (w3 109 j)) (20000 * k) (w3 110 k).toNat).length : Int) = (L k).length := fun k a b => by rw [slc_l, e110 k a b]; omega
      have W24 : Fz plM w2 w4 := Fz_tr W3 W4
      refine fin h3 w4 (hdL x4 G fm ++ szL (w3 110) 7 ++ cnL (fun k => slc (fun j => i2b (w3 109 j)) (20000 * k) (w3 110 k).toNat) 7 ++ (if N = 0 then [] else ovL (h2 387) G ((G + 7) / 8).toNat)) (VWG_t p0 V2 (fun a i q => F3 a i (by unfold tneC bgF; omega)) (fun a i q => W24 a i (by unfold plM; omega))) ?_ ?_ ?_ ?_ ?_ ?_
      · by_cases gd : gdL L
        · have eM : M = hdL x4 G fm ++ szL (w3 110) 7 ++ cnL (fun k => slc (fun j => i2b (w3 109 j)) (20000 * k) (w3 110 k).toNat) 7 ++ (if N = 0 then [] else ovL (h2 387) G ((G + 7) / 8).toNat) := by
            rw [gMM gd]
            unfold tnL
            rw [szL_c (z' := w3 110) 7 (fun i a b => (e110 i a b).symm), cnL_c (L' := fun k => slc (fun j => i2b (w3 109 j)) (20000 * k) (w3 110 k).toNat) 7 (fun i a b => ?_)]
            · by_cases z : x4 = 0
              · rw [if_pos z, if_pos (xN.1 z)]
              · rw [if_neg z, if_neg (fun y => z (xN.2 y))]
            · rw [e110 i a b]
              refine (slc_eL (L := L i) (fun j hj => ?_)).symm
              have l16 := gd i a b
              have b8 := byt_g (t10 i) j
              show i2b (w3 109 (20000 * i + j)) = _
              rw [W3 _ _ (by unfold plM; omega), (t2 i a b).2 j hj (by omega), i2b_eq]; omega
          rw [← eM]; exact BM
        · have lM := nM gd
          rcases BM with ⟨z, -⟩ | ⟨-, z1, z2⟩
          · omega
          · refine Or.inr ⟨?_, z1, z2⟩
            have : ∃ i : Nat, i < 7 ∧ 16000 < (L i).length := by
              apply Classical.byContradiction
              intro ne
              exact gd (fun k a b => by
                apply Classical.byContradiction
                intro lt
                exact ne ⟨k.toNat, by omega, by rw [show ((k.toNat : Nat) : Int) = k by omega]; omega⟩)
            obtain ⟨i, i7, il⟩ := this
            have cm := cnL_m (fun k => slc (fun j => i2b (w3 109 j)) (20000 * k) (w3 110 k).toNat) 7 i i7
            have := ec i (by omega) (by omega)
            rw [List.length_append, List.length_append]
            have e9 : ((fun k : Int => slc (fun j => i2b (w3 109 j)) (20000 * k) (w3 110 k).toNat) (i : Int)).length = (slc (fun j => i2b (w3 109 j)) (20000 * (i : Int)) (w3 110 i).toNat).length := rfl
            omega
      · refine byt_a (byt_a (byt_a (byt_a (byt_a (byt_a (f2_r _) (f2_r _)) (f2_r _)) (f2_r _)) (byt_sz _ _)) (byt_cn _ (fun i a b => ?_))) ?_
        · exact byt_s (fun j hj => i2b_r _)
        · split
          · exact byt_0
          · exact byt_ov _ _ _
      · rw [← List.append_assoc, ← List.append_assoc, ← List.append_assoc]; exact P4
      · have c9 := cnL_b (b := 70000) (L := fun k => slc (fun j => i2b (w3 109 j)) (20000 * k) (w3 110 k).toNat) 7 (fun i a b => by
          have := ec i a b
          have := ll i a b
          show (slc (fun j => i2b (w3 109 j)) (20000 * i) (w3 110 i).toNat).length ≤ 70000
          omega)
        have o9 : (if N = 0 then [] else ovL (h2 387) G ((G + 7) / 8).toNat : List Int).length ≤ 100 := by
          split
          · simp
          · rw [ovL_l]; omega
        rw [List.length_append, List.length_append, List.length_append, szL_l, show (hdL x4 G fm).length = 8 from rfl]
        omega
      · refine Fz_tr (Fz_mo F1 (fun a j q => Or.inl (Or.inr (Or.inl q)))) (Fz_tr (Fz_mo F2 (fun a j q => Or.inl q)) (Fz_mo F3 (fun a j q => Or.inr q)))
      · refine Fz_tr (Fz_mo Fg (fun a j q => Or.inr (Or.inr q))) (Fz_tr (Fz_mo W1 (fun a j q => Or.inl (Or.inr (Or.inl q)))) (Fz_tr (Fz_mo W2 (fun a j q => Or.inl q)) (Fz_mo W24 (fun a j q => Or.inr (Or.inl q)))))
    obtain ⟨wa, ea, Pa, Fa⟩ := m_429 (m := m) (v := 0) P2 (by omega)
    obtain ⟨wb, eb, Pb, Fb⟩ := m_429 (m := m) (v := x4) Pa (by rw [List.length_append]; show ((P.length + 2 : Nat) : Int) < _; omega)
    obtain ⟨wc, ec, Pc, Fc⟩ := m_429 (m := m) (v := G) Pb (by rw [List.length_append, List.length_append]; show ((P.length + 2 + 2 : Nat) : Int) < _; omega)
    obtain ⟨wd, ed, Pd, Fd⟩ := m_429 (m := m) (v := fm) Pc (by rw [List.length_append, List.length_append, List.length_append]; show ((P.length + 2 + 2 + 2 : Nat) : Int) < _; omega)
    have k9 := key wd (by unfold hdL; rw [← List.append_assoc, ← List.append_assoc, ← List.append_assoc]; exact Pd) (Fz_tr Fa (Fz_tr Fb (Fz_tr Fc Fd)))
    have f70 : wb 17 70 = G := by rw [Fb _ _ (by unfold plM; omega), Fa _ _ (by unfold plM; omega)]; exact e70
    have f72 : wc 17 72 = fm := by rw [Fc _ _ (by unfold plM; omega), Fb _ _ (by unfold plM; omega), Fa _ _ (by unfold plM; omega)]; exact e72
    have sz := s64_z t7.1
    refine J_impR (fun Q hq => blk (md := true) [9, 43, 65, 123, 210, 237, 247, 292, 319] 99 GM FM rfl k422 hq) ?_
    simp -implicitDefEqProofs only [r_iconst, r_bipush, r_sipush, r_ldc, r_ldc_w, r_lconst, r_ldc2_w, r_aconst_null, r_iload, r_iload_n, r_lload, r_lload_n, r_aload, r_aload_n, r_istore, r_istore_n, r_lstore, r_lstore_n, r_astore, r_astore_n, r_iinc, r_iadd, r_iaddW, r_isub, r_isubW, r_imul, r_imulW, r_ladd, r_laddW, r_lsub, r_lsubW, r_lmul, r_lmulW, r_iand, r_ior, r_ishl, r_ishr, r_iushr, r_land, r_lor, r_lshl, r_lshr, r_lushr, r_idiv, r_irem, r_ldiv, r_lrem, r_lcmp, r_ineg, r_i2l, r_l2i, r_i2b, r_i2s, r_i2c, r_dup, r_pop, r_dup_x1, r_dup_x2, r_dup2, r_dup2L, r_icmp_eq, r_icmp_ne, r_icmp_lt, r_icmp_ge, r_icmp_gt, r_icmp_le, r_if_eq, r_if_ne, r_if_lt, r_if_ge, r_if_gt, r_if_le, r_acmp_eq, r_acmp_ne, r_ifnull, r_ifnonnull, r_goto, r_nop, r_tsw, r_lsw, r_getfield, r_getfinal, r_putfield, r_getstaticL, r_getstaticR, r_iaload, r_baload, r_saload, r_laload, r_aaload, r_aaloadM, r_iastore, r_bastore, r_zastore, r_sastore, r_lastore, r_aastore, r_alen, r_new, r_newarray, r_anewarray, r_invV, r_invI, r_objI, r_invS, r_acp, r_ireturn, r_zreturn, r_lreturn, r_return, r_areturn, r_athrow, ↓e_pI, ↓e_pL, ↓e_pR, ↓e_lg0, ↓e_lg1, ↓e_tk0, ↓e_tkI0, ↓e_tkI1, ↓e_tkI2, ↓e_tkI3, ↓e_tkI4, ↓e_tkL, ↓e_tkR0_0, ↓e_tkR0_1, ↓e_tkR1_0, ↓e_tkR1_1, ↓e_tkR2_0, ↓e_tkR2_1, ↓e_tkR3_0, ↓e_tkR3_1, ↓e_tkR4_0, ↓e_tkR4_1, ↓e_tkR5_0, ↓e_tkR5_1, ↓e_tkR6_0, ↓e_tkR6_1, ↓e_tkR7_0, ↓e_tkR7_1, ↓e_tkR8_0, ↓e_tkR8_1, ↓e_tkR9_0, ↓e_tkR9_1, ↓e_tkR10_0, ↓e_tkR10_1, ↓e_tkR11_0, ↓e_tkR11_1, ↓e_tkR12_0, ↓e_tkR12_1, ↓e_tkR13_0, ↓e_tkR13_1, ↓e_tkR14_0, ↓e_tkR14_1, ↓e_tkR15_0, ↓e_tkR15_1, ↓e_tkR16_0, ↓e_tkR16_1, ↓e_tkR17_0, ↓e_tkR17_1, ↓e_tkR39_0, ↓e_tkR39_1, ↓e_tkR40_0, ↓e_tkR40_1, ↓e_tkR41_0, ↓e_tkR41_1, ↓e_tkR42_0, ↓e_tkR42_1, ↓e_tkR43_0, ↓e_tkR43_1, ↓e_tkR44_0, ↓e_tkR44_1, ↓e_tkR45_0, ↓e_tkR45_1, ↓e_tkR46_0, ↓e_tkR46_1, ↓e_tkR47_0, ↓e_tkR47_1, ↓e_tkR48_0, ↓e_tkR48_1, ↓e_pv0, ↓e_pv1, ↓e_pv2, ↓e_pv3, ↓e_pv5, ↓e_pvR, ↓e_tsw0, ↓e_tsw1, ↓e_lsw0, ↓e_lsw1, e_kq100, e_kq0, e_kq3, e_kq5, e_kqR0, e_kqR1, e_kqR2, e_kqR3, e_kqR4, e_kqR5, e_kqR6, e_kqR7, e_kqR8, e_kqR9, e_kqR10, e_kqR11, e_kqR12, e_kqR13, e_kqR14, e_kqR15, e_kqR16, e_kqR17, e_kqR39, e_kqR40, e_kqR41, e_kqR42, e_kqR43, e_kqR44, e_kqR45, e_kqR46, e_kqR47, e_kqR48, e_st0I, e_st0R, e_st0L, e_st1N, e_st1I, e_st1L, e_st1R, e_st2, e_wd0, e_wdI, e_wdL, e_wdR, e_c1I, e_c1R, e_gv0, e_gv1, e_gv2, e_gv3, e_gv4, e_gv5, e_gvR0, e_gvR1, e_gvR2, e_gvR3, e_gvR4, e_gvR5, e_gvR6, e_gvR7, e_gvR8, e_gvR9, e_gvR10, e_gvR11, e_gvR12, e_gvR13, e_gvR14, e_gvR15, e_gvR16, e_gvR17, e_gvR39, e_gvR40, e_gvR41, e_gvR42, e_gvR43, e_gvR44, e_gvR45, e_gvR46, e_gvR47, e_gvR48, e_kX0, e_kX1, e_kVv, e_kVx, e_kIv, e_kIx, e_kLv, e_kLx, e_kRv, e_kRx, e_thr, e_lk1, e_ic0, e_ic1, e_jm, st_ap, clr_ap, e_lceq, e_lclt, e_lcgt, nn, ↓reduceIte, Nat.reduceDiv, Nat.reduceMod, Nat.reduceMul, Nat.reduceAdd, Nat.reduceEqDiff, Nat.reduceLeDiff, Int.reduceNatCast, Int.cast_ofNat_Int, Int.reduceSub, Int.reduceMul, Int.reduceNeg, Int.reduceAdd, Int.reduceLE, Int.reduceLT, Int.reduceEq, Int.reduceNe, true_and, and_true, true_or, and_self, ne_eq, not_false_eq_true, Bool.false_eq_true, reduceCtorEq, rd_l1, rd_l2, rd_l3, rd_l4, rd_l5, rd_l6, rd_l7, rd_l8, rd_l9, SB, rd_ge, i2b_2, false_and, and_false, not_true_eq_false, l422_0, l422_9, l422_28, l422_43, l422_60, l422_65, l422_123, l422_147, l422_162, l422_163, l422_171, l422_187, l422_188, l422_210, l422_234, l422_237, l422_247, l422_283, l422_289, l422_292, l422_319, l422_367, l422_368, l422_377, l422_389, s422_0, s422_9, s422_28, s422_43, s422_60, s422_65, s422_123, s422_147, s422_162, s422_163, s422_171, s422_187, s422_188, s422_210, s422_234, s422_237, s422_247, s422_283, s422_289, s422_292, s422_319, s422_367, s422_368, s422_377, s422_389, zM_18, zM_19, zM_20, zM_21, zM_22, zM_23, zM_24, zM_25, zM_26, zM_27, zM_28, zM_29, zM_30, zM_31, zM_32, zM_33, zM_34, zM_35, zM_36, zM_37, zM_38, zM_39, zM_40, zM_41, zM_42, zM_43, zM_44, zM_45, zM_46, zM_47, zM_48, zM_49, zM_50, zM_51, zM_52, zM_53, zM_54, zM_55, zM_56, zM_57, zM_58, zM_59, zM_60, zM_61, zM_62, zM_63, zM_64, zM_65, zM_66, zM_67, zM_68, zM_69, zM_70, zM_71, zM_72, zM_73, zM_74, zM_75, zM_76, zM_77, zM_78, zM_79, zM_80, zM_81, zM_82, zM_83, zM_84, zM_85, zM_86, zM_87, zM_88, zM_89, zM_90, zM_91, zM_92, zM_93, zM_94, zM_95, zM_96, zM_97, zM_98, zM_99, zM_100, zM_101, zM_102, zM_103, zM_104, zM_105, zM_106, zM_107, zM_108, zM_109, zM_110, zM_111, zM_112, zM_113, zM_114, zM_115, zM_116, zM_117, zM_118, zM_119]
    rw [e70]
    refine J_negR (by omega) (J_RV ea ?_)
    rcases x01 with z | z
    · refine J_posR (sz.2 (xN.1 z)) ?_
      rw [z] at eb
      refine J_RV eb ?_
      rw [f70]
      refine J_RV ec ?_
      rw [f72]
      exact J_RV ed k9
    · refine J_negR (fun y => by have := xN.2 (sz.1 y); omega) ?_
      rw [z] at eb
      refine J_RV eb ?_
      rw [f70]
      refine J_RV ec ?_
      rw [f72]
      exact J_RV ed k9
end
