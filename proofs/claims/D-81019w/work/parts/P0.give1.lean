set_option maxRecDepth 100000
/-- fonts are being given: font f (at place p + f) has k tables, e entries are given in all -/
def GVI (β0 β : Int → Int) (D : Int → Prop) (h0 w0 : Mem) (p F : Int) (fl : Int → Int) (f k e : Int) (κ μ : Int → Int) (h w : Mem) : Prop :=
  CHG β0 β D e e h0 w0 (bgh p (f + 1) F fl h) w ∧
  (∀ d, 0 ≤ d → d < e → (D (κ d) ∧ β (κ d) = μ d) ∧ h 364 d = 28 + 2 * κ d ∧ w 66 d = μ d ∧ ∃ q i, (0 ≤ q ∧ q < 4) ∧ w 55 q = 1 ∧ (0 ≤ i ∧ i < w 57 q ∧ i < 16) ∧ w 59 (16 * q + i) = μ d ∧ w 58 (16 * q + i) = w 63 d) ∧
  (∀ d d', 0 ≤ d → d < d' → d' < e → sam w d d' → μ d = μ d') ∧
  (h (252 + 6 * (p + f)) 0 = 1 ∧ w 55 (p + f) = 1 ∧ h (252 + 6 * (p + f)) 2 = k ∧ w 57 (p + f) = k ∧ h (252 + 6 * (p + f)) 1 = w 56 (p + f)) ∧
  (∀ i, 0 ≤ i → i < k → w 58 (16 * (p + f) + i) = w 63 (e - k + i))
def gvC (a j : Int) : Prop := stC a j ∨ a = 364
def gvM (a j : Int) : Prop := stM a j ∨ a = 66
theorem ENT_t {E s : Int} {b : Int → Int} {h w h1 w1 : Mem} (N : ENT E s b h w) (c : ∀ a j, (a = 360 ∧ j = 4) ∨ a = 363 → h1 a j = h a j) (d : ∀ a j, (a = 17 ∧ j = 60) ∨ (61 ≤ a ∧ a ≤ 65) → w1 a j = w a j) : ENT E s b h1 w1 := by
  obtain ⟨t1, t2, t3, t4, t5⟩ := N
  refine ⟨by rw [c _ _ (by omega)]; exact t1, by rw [d _ _ (by omega)]; exact t2, t3, fun e x y => ?_, fun d' e x y z => ?_⟩
  · have := t4 e x y
    unfold EN1 at this ⊢
    rw [c 363 _ (by omega), d 61 _ (by omega), d 62 _ (by omega), d 63 _ (by omega), d 64 _ (by omega), d 65 _ (by omega)]
    exact this
  · rw [d 62 _ (by omega), d 63 _ (by omega), d 62 _ (by omega), d 63 _ (by omega)]
    exact t5 d' e x y z
section
variable {A B : Qt → Prop} {Φ : Out → Int → Mem → Out → Int → Mem → Prop} {KL KM : Qt → Qt} {n m : Int} {h w : Mem} {r s : Int} {b : Int → Int}
/-- an entry's body is put into its font: 142@.. and 335@203 -/
theorem p_gvt {β0 β : Int → Int} {D : Int → Prop} {h0 w0 : Mem} {p F E : Int} {fl κ μ : Int → Int} {f k e kk : Int} {o4 o5 : Option V} (R : RDR r s b h w) (N : ENT E s b h w) (pf : 0 ≤ p ∧ 0 ≤ f ∧ f < F ∧ p + F ≤ 4) (e0 : 0 ≤ e ∧ e < E) (k0 : 0 ≤ k ∧ k < 16 ∧ k ≤ e) (en : w 62 e = f) (inc : ∀ i, 0 ≤ i → i < k → w 63 (e - k + i) < w 63 e)
    (C : CHG β0 β D (e + 1) (e + 1) h0 w0 (bgh p (f + 1) F fl h) w)
    (Q1 : ∀ d, 0 ≤ d → d < e → (D (κ d) ∧ β (κ d) = μ d) ∧ h 364 d = 28 + 2 * κ d ∧ w 66 d = μ d ∧ ∃ q i, (0 ≤ q ∧ q < 4) ∧ w 55 q = 1 ∧ (0 ≤ i ∧ i < w 57 q ∧ i < 16) ∧ w 59 (16 * q + i) = μ d ∧ w 58 (16 * q + i) = w 63 d)
    (Q2 : ∀ d d', 0 ≤ d → d < d' → d' < e → sam w d d' → μ d = μ d')
    (Q3 : h (252 + 6 * (p + f)) 0 = 1 ∧ w 55 (p + f) = 1 ∧ h (252 + 6 * (p + f)) 2 = k ∧ w 57 (p + f) = k ∧ h (252 + 6 * (p + f)) 1 = w 56 (p + f))
    (Q4 : ∀ i, 0 ≤ i → i < k → w 58 (16 * (p + f) + i) = w 63 (e - k + i))
    (kD : D kk) (kr : 0 ≤ kk ∧ kk < 112) (w6 : w 66 e = β kk) (tx : ∀ q i, (0 ≤ q ∧ q < 4) → w 55 q = 1 → (0 ≤ i ∧ i < w 57 q ∧ i < 16) → w 59 (16 * q + i) = β kk → w 58 (16 * q + i) = w 63 e) (S : ∀ d, 0 ≤ d → d < e → sam w d e → μ d = β kk)
    (fin : ∀ (h1 w1 : Mem), GVI β0 β D h0 w0 p F fl f (k + 1) (e + 1) (ufn κ e kk) (ufn μ e (β kk)) h1 w1 → Fz gvC h h1 → Fz gvM w w1 → J2 (fun Q => T_at gC 142 49 [some (vR 19 360), some (vI p), some (vI (e + 1)), some (vI f), some (vR 6 (252 + 6 * (p + f))), some (vI (k + 1))] [] n h1 (KL Q)) (fun Q => T_at gM 335 58 [some (vR 33 17), some (vI r), some (vI p), some (vI (e + 1)), o4, o5] [] m w1 (KM Q)) Φ) :
    J2 (fun Q => T gC 135 [vR 19 360, vI e] n (st h 364 e (28 + 2 * kk)) (kL (thr (KL Q)) fun a n h => 0 ≤ e ∧ e < 64 ∧ ¬252 + 6 * (p + f) = 0 ∧ T gC 484 [vR 7 (252 + 6 * (p + f)), vL a, vR 2 (h 364 e)] n h (kI (thr (KL Q)) fun a n h => i32 (e + 1) ∧ i32 (k + 1) ∧ T_at gC 142 49 [some (vR 19 360), some (vI p), some (vI (e + 1)), some (vI f), some (vR 6 (252 + 6 * (p + f))), some (vI (k + 1))] [] n h (KL Q)))) (fun Q => T_at gM 335 203 [some (vR 33 17), some (vI r), some (vI p), some (vI e), o4, o5] [] m w (KM Q)) Φ := by
  obtain ⟨t1, t2, t3, t4, t5⟩ := id N
  obtain ⟨b1, b2, ⟨b3, b4, b5⟩, b6, b7, b8⟩ := t4 e e0.1 e0.2
  obtain ⟨q31, q32, q33, q34, q35⟩ := Q3
  have R1 : RDR r s b (st h 364 e (28 + 2 * kk)) w := RDR_t R (fun a j g => st_na (by omega)) (fun _ _ _ => rfl)
  have te := rd_tag (n := n) R1 (e := e) (by omega) (by rw [st_na (by omega), b1]; exact b2)
  rw [st_na (show (363 : Int) ≠ 364 by omega), b1, ← b3] at te
  refine J_LL te ?_
  rw [st_eq]
  have z16 := (fsz6 (p := p + f) (by omega)).1
  -- the font as it stands, in both
  have FNg := C.2.2.2.1 (p + f) (by omega) (by omega)
  have cgo : ∀ a j, ¬ ((a - 252) % 6 = 0 ∧ f + 1 ≤ (a - 252) / 6 - p ∧ (a - 252) / 6 - p < F ∧ 0 ≤ j ∧ j < 3) → bgh p (f + 1) F fl h a j = h a j := fun a j g => bg_o g
  unfold FNT at FNg
  rw [FO_4 (by omega)] at FNg
  obtain ⟨_, _, g3⟩ := FNg
  obtain ⟨_, gi⟩ := g3 q32
  rw [q34] at gi
  have gi' : ∀ i, 0 ≤ i → i < k → (h (252 + 6 * (p + f) + 1) i = w 58 (16 * (p + f) + i) ∧ 0 ≤ w 58 (16 * (p + f) + i) ∧ w 58 (16 * (p + f) + i) ≤ 4294967295) ∧ (0 < i → w 58 (16 * (p + f) + i - 1) < w 58 (16 * (p + f) + i)) ∧ ∃ k, D k ∧ h (252 + 6 * (p + f) + 2) i = 28 + 2 * k ∧ w 59 (16 * (p + f) + i) = β k := fun i x y => by
    have := gi i x y
    rw [cgo _ _ (by omega), cgo _ _ (by omega)] at this
    exact this
  have ne : ∀ i, 0 ≤ i → i < k → w 58 (16 * (p + f) + i) < w 63 e := fun i x y => by rw [Q4 i x y]; exact inc i x y
  have c36 : ∀ a j, a ≠ 364 → (st h 364 e (28 + 2 * kk)) a j = h a j := fun a j g => st_na g
  have bdk := C.2.2.1.1
  have put := c_put9 (n := n) (h := st h 364 e (28 + 2 * kk)) (a := 252 + 6 * (p + f)) (v := w 63 e) (x := 28 + 2 * kk) (k := k) (by omega) (by rw [c36 _ _ (by omega), q33]; omega) z16 (by omega) (by rw [c36 _ _ (by omega), q33]; omega) (fun i x y => by rw [c36 _ _ (by omega), (gi' i x y).1.1]; exact ne i x y) (fun i x y => by rw [c36 _ _ (by omega), q33] at y; omega) (fun i x y => by
    rw [c36 _ _ (by omega), q33] at y
    obtain ⟨k', d', e', _⟩ := (gi' i x y).2.2
    have := (bdk k' d').1
    rw [c36 _ _ (by omega), e']; omega)
  rw [c36 _ _ (show (252 : Int) + 6 * (p + f) ≠ 364 by omega), q33] at put
  rcases put with ⟨x, _⟩ | ⟨_, x, _⟩ | ⟨_, _, h1, ev1, p1, p2, F1⟩
  · omega
  · omega
  obtain ⟨w1, ev2, m1, m2, G1⟩ := m_give2 (m := m) (w := w) (p := p + f) (v := w 63 e) (x := β kk) (k := k) (by omega) (by omega) (by omega) (fun i x y => ne i x y) (fun i x y => by omega)
  rw [q34] at m1 m2
  repeat (first | refine J_andL (by first | omega | (constructor <;> omega)) ?_ | refine J_andR (by first | omega | (constructor <;> omega)) ?_ | refine J_posL (by first | omega | (constructor <;> omega)) ?_ | refine J_negL (by first | omega | (constructor <;> omega)) ?_ | refine J_posR (by first | omega | (constructor <;> omega)) ?_ | refine J_negR (by first | omega | (constructor <;> omega)) ?_)
  refine J_LI ev1 ?_
  refine J_impR (fun Q hq => blk (md := true) [2, 58, 76, 144, 203] 99 GM FM rfl k335 hq) ?_
  simp -implicitDefEqProofs only [r_iconst, r_bipush, r_sipush, r_ldc, r_ldc_w, r_lconst, r_ldc2_w, r_aconst_null, r_iload, r_iload_n, r_lload, r_lload_n, r_aload, r_aload_n, r_istore, r_istore_n, r_lstore, r_lstore_n, r_astore, r_astore_n, r_iinc, r_iadd, r_iaddW, r_isub, r_isubW, r_imul, r_imulW, r_ladd, r_laddW, r_lsub, r_lsubW, r_lmul, r_lmulW, r_iand, r_ior, r_ishl, r_ishr, r_iushr, r_land, r_lor, r_lshl, r_lshr, r_lushr, r_idiv, r_irem, r_ldiv, r_lrem, r_lcmp, r_ineg, r_i2l, r_l2i, r_i2b, r_i2s, r_i2c, r_dup, r_pop, r_dup_x1, r_dup_x2, r_dup2, r_dup2L, r_icmp_eq, r_icmp_ne, r_icmp_lt, r_icmp_ge, r_icmp_gt, r_icmp_le, r_if_eq, r_if_ne, r_if_lt, r_if_ge, r_if_gt, r_if_le, r_acmp_eq, r_acmp_ne, r_ifnull, r_ifnonnull, r_goto, r_nop, r_tsw, r_lsw, r_getfield, r_getfinal, r_putfield, r_getstaticL, r_getstaticR, r_iaload, r_baload, r_saload, r_laload, r_aaload, r_aaloadM, r_iastore, r_bastore, r_zastore, r_sastore, r_lastore, r_aastore, r_alen, r_new, r_newarray, r_anewarray, r_invV, r_invI, r_objI, r_invS, r_acp, r_ireturn, r_zreturn, r_lreturn, r_return, r_areturn, r_athrow, ↓e_pI, ↓e_pL, ↓e_pR, ↓e_lg0, ↓e_lg1, ↓e_tk0, ↓e_tkI0, ↓e_tkI1, ↓e_tkI2, ↓e_tkI3, ↓e_tkI4, ↓e_tkL, ↓e_tkR0_0, ↓e_tkR0_1, ↓e_tkR1_0, ↓e_tkR1_1, ↓e_tkR2_0, ↓e_tkR2_1, ↓e_tkR3_0, ↓e_tkR3_1, ↓e_tkR4_0, ↓e_tkR4_1, ↓e_tkR5_0, ↓e_tkR5_1, ↓e_tkR6_0, ↓e_tkR6_1, ↓e_tkR7_0, ↓e_tkR7_1, ↓e_tkR8_0, ↓e_tkR8_1, ↓e_tkR9_0, ↓e_tkR9_1, ↓e_tkR10_0, ↓e_tkR10_1, ↓e_tkR11_0, ↓e_tkR11_1, ↓e_tkR12_0, ↓e_tkR12_1, ↓e_tkR13_0, ↓e_tkR13_1, ↓e_tkR14_0, ↓e_tkR14_1, ↓e_tkR15_0, ↓e_tkR15_1, ↓e_tkR16_0, ↓e_tkR16_1, ↓e_tkR17_0, ↓e_tkR17_1, ↓e_tkR39_0, ↓e_tkR39_1, ↓e_tkR40_0, ↓e_tkR40_1, ↓e_tkR41_0, ↓e_tkR41_1, ↓e_tkR42_0, ↓e_tkR42_1, ↓e_tkR43_0, ↓e_tkR43_1, ↓e_tkR44_0, ↓e_tkR44_1, ↓e_tkR45_0, ↓e_tkR45_1, ↓e_tkR46_0, ↓e_tkR46_1, ↓e_tkR47_0, ↓e_tkR47_1, ↓e_tkR48_0, ↓e_tkR48_1, ↓e_pv0, ↓e_pv1, ↓e_pv2, ↓e_pv3, ↓e_pv5, ↓e_pvR, ↓e_tsw0, ↓e_tsw1, ↓e_lsw0, ↓e_lsw1, e_kq100, e_kq0, e_kq3, e_kq5, e_kqR0, e_kqR1, e_kqR2, e_kqR3, e_kqR4, e_kqR5, e_kqR6, e_kqR7, e_kqR8, e_kqR9, e_kqR10, e_kqR11, e_kqR12, e_kqR13, e_kqR14, e_kqR15, e_kqR16, e_kqR17, e_kqR39, e_kqR40, e_kqR41, e_kqR42, e_kqR43, e_kqR44, e_kqR45, e_kqR46, e_kqR47, e_kqR48, e_st0I, e_st0R, e_st0L, e_st1N, e_st1I, e_st1L, e_st1R, e_st2, e_wd0, e_wdI, e_wdL, e_wdR, e_c1I, e_c1R, e_gv0, e_gv1, e_gv2, e_gv3, e_gv4, e_gv5, e_gvR0, e_gvR1, e_gvR2, e_gvR3, e_gvR4, e_gvR5, e_gvR6, e_gvR7, e_gvR8, e_gvR9, e_gvR10, e_gvR11, e_gvR12, e_gvR13, e_gvR14, e_gvR15, e_gvR16, e_gvR17, e_gvR39, e_gvR40, e_gvR41, e_gvR42, e_gvR43, e_gvR44, e_gvR45, e_gvR46, e_gvR47, e_gvR48, e_kX0, e_kX1, e_kVv, e_kVx, e_kIv, e_kIx, e_kLv, e_kLx, e_kRv, e_kRx, e_thr, e_lk1, e_ic0, e_ic1, e_jm, st_ap, clr_ap, e_lceq, e_lclt, e_lcgt, nn, ↓reduceIte, Nat.reduceDiv, Nat.reduceMod, Nat.reduceMul, Nat.reduceAdd, Nat.reduceEqDiff, Nat.reduceLeDiff, Int.reduceNatCast, Int.cast_ofNat_Int, Int.reduceSub, Int.reduceMul, Int.reduceNeg, Int.reduceAdd, Int.reduceLE, Int.reduceLT, Int.reduceEq, Int.reduceNe, true_and, and_true, true_or, and_self, ne_eq, not_false_eq_true, Bool.false_eq_true, reduceCtorEq, rd_l1, rd_l2, rd_l3, rd_l4, rd_l5, rd_l6, rd_l7, rd_l8, rd_l9, SB, rd_ge, i2b_2, false_and, and_false, not_true_eq_false, l335_0, l335_2, l335_56, l335_58, l335_76, l335_107, l335_113, l335_120, l335_144, l335_195, l335_203, l335_233, s335_0, s335_2, s335_56, s335_58, s335_76, s335_107, s335_113, s335_120, s335_144, s335_195, s335_203, s335_233, zM_18, zM_19, zM_20, zM_21, zM_22, zM_23, zM_24, zM_25, zM_26, zM_27, zM_28, zM_29, zM_30, zM_31, zM_32, zM_33, zM_34, zM_35, zM_36, zM_37, zM_38, zM_39, zM_40, zM_41, zM_42, zM_43, zM_44, zM_45, zM_46, zM_47, zM_48, zM_49, zM_50, zM_51, zM_52, zM_53, zM_54, zM_55, zM_56, zM_57, zM_58, zM_59, zM_60, zM_61, zM_62, zM_63, zM_64, zM_65, zM_66, zM_67, zM_68, zM_69, zM_70, zM_71, zM_72, zM_73, zM_74, zM_75, zM_76, zM_77, zM_78, zM_79, zM_80, zM_81, zM_82, zM_83, zM_84, zM_85, zM_86, zM_87, zM_88, zM_89, zM_90, zM_91, zM_92, zM_93, zM_94, zM_95, zM_96, zM_97, zM_98, zM_99, zM_100, zM_101, zM_102, zM_103, zM_104, zM_105, zM_106, zM_107, zM_108, zM_109, zM_110, zM_111, zM_112, zM_113, zM_114, zM_115, zM_116, zM_117, zM_118, zM_119]
  rw [en, w6]
  repeat (first | refine J_andL (by first | omega | (constructor <;> omega)) ?_ | refine J_andR (by first | omega | (constructor <;> omega)) ?_ | refine J_posL (by first | omega | (constructor <;> omega)) ?_ | refine J_negL (by first | omega | (constructor <;> omega)) ?_ | refine J_posR (by first | omega | (constructor <;> omega)) ?_ | refine J_negR (by first | omega | (constructor <;> omega)) ?_)
  refine J_RV ev2 ?_
  repeat (first | refine J_andL (by first | omega | (constructor <;> omega)) ?_ | refine J_andR (by first | omega | (constructor <;> omega)) ?_ | refine J_posL (by first | omega | (constructor <;> omega)) ?_ | refine J_negL (by first | omega | (constructor <;> omega)) ?_ | refine J_posR (by first | omega | (constructor <;> omega)) ?_ | refine J_negR (by first | omega | (constructor <;> omega)) ?_)
  have F1' : ∀ a j, ¬ ((a = 252 + 6 * (p + f) ∧ j = 2) ∨ a = 252 + 6 * (p + f) + 1 ∨ a = 252 + 6 * (p + f) + 2) → a ≠ 364 → h1 a j = h a j := fun a j g1 g2 => by rw [F1 a j (by unfold ptC; exact g1), c36 a j g2]
  have G1' : ∀ a j, ¬ ((a = 57 ∧ j = p + f) ∨ ((a = 58 ∨ a = 59) ∧ 16 * (p + f) ≤ j ∧ j < 16 * (p + f) + 16)) → w1 a j = w a j := fun a j g => G1 a j (by unfold ptM; exact g)
  have h364 : ∀ d, h1 364 d = if d = e then 28 + 2 * kk else h 364 d := fun d => by
    rw [F1 364 d (by unfold ptC; omega), st_ap]
    by_cases x : d = e
    · rw [if_pos ⟨rfl, x⟩, if_pos x]
    · rw [if_neg (fun g => x g.2), if_neg x]
  have insl : ∀ (g : Int → Int) (v i : Int), i < k → insf g k v i = g i := fun g v i x => by unfold insf; rw [if_pos x]
  have inse : ∀ (g : Int → Int) (v : Int), insf g k v k = v := fun g v => by unfold insf; rw [if_neg (by omega), if_pos rfl]
  have sl : ∀ i, 0 ≤ i → i < k → w1 58 (16 * (p + f) + i) = w 58 (16 * (p + f) + i) ∧ w1 59 (16 * (p + f) + i) = w 59 (16 * (p + f) + i) := fun i x y => by
    have := m2 i x (by omega)
    rw [this.1, this.2, insl _ _ _ y, insl _ _ _ y]; exact ⟨rfl, rfl⟩
  have sk : w1 58 (16 * (p + f) + k) = w 63 e ∧ w1 59 (16 * (p + f) + k) = β kk := by
    have := m2 k k0.1 (by omega)
    rw [this.1, this.2, inse, inse]; exact ⟨rfl, rfl⟩
  have hl : ∀ i, 0 ≤ i → i < k → h1 (252 + 6 * (p + f) + 1) i = h (252 + 6 * (p + f) + 1) i ∧ h1 (252 + 6 * (p + f) + 2) i = h (252 + 6 * (p + f) + 2) i := fun i x y => by
    have := p2 i x (by omega)
    rw [this.1, this.2, insl _ _ _ y, insl _ _ _ y, c36 _ _ (by omega), c36 _ _ (by omega)]; exact ⟨rfl, rfl⟩
  have hk : h1 (252 + 6 * (p + f) + 1) k = w 63 e ∧ h1 (252 + 6 * (p + f) + 2) k = 28 + 2 * kk := by
    have := p2 k k0.1 (by omega)
    rw [this.1, this.2, inse, inse]; exact ⟨rfl, rfl⟩
  have z63 := e4_r b (w 61 e)
  -- the change goes on
  have F2 : Fz (fun a j => (a = 252 + 6 * (p + f) ∧ 0 ≤ j ∧ j < 3) ∨ a = 252 + 6 * (p + f) + 1 ∨ a = 252 + 6 * (p + f) + 2 ∨ a = 364) (bgh p (f + 1) F fl h) (bgh p (f + 1) F fl h1) := bg_z (fun a j g => F1' a j (by omega) (by omega))
  have FN : FNT β D (p + f) (bgh p (f + 1) F fl h1) w1 := by
    unfold FNT
    rw [FO_4 (by omega)]
    have cgo1 : ∀ a j, ¬ ((a - 252) % 6 = 0 ∧ f + 1 ≤ (a - 252) / 6 - p ∧ (a - 252) / 6 - p < F ∧ 0 ≤ j ∧ j < 3) → bgh p (f + 1) F fl h1 a j = h1 a j := fun a j g => bg_o g
    rw [cgo1 _ _ (by omega), cgo1 _ _ (by omega), cgo1 _ _ (by omega), F1' _ 0 (by omega) (by omega), F1' _ 1 (by omega) (by omega), p1, m1, G1' 55 _ (by omega), G1' 56 _ (by omega)]
    refine ⟨by rw [q31, q32], by omega, fun _ => ⟨⟨q35, rfl, by omega, by omega⟩, fun i x y => ?_⟩⟩
    rw [cgo1 _ _ (by omega), cgo1 _ _ (by omega)]
    by_cases ik : i = k
    · rw [ik, hk.1, hk.2, sk.1, sk.2]
      refine ⟨⟨rfl, by omega, by omega⟩, fun kp => ?_, kk, kD, rfl, rfl⟩
      rw [show 16 * (p + f) + k - 1 = 16 * (p + f) + (k - 1) by omega, (sl (k - 1) (by omega) (by omega)).1]
      exact ne (k - 1) (by omega) (by omega)
    · have g := gi' i x (by omega)
      rw [(hl i x (by omega)).1, (hl i x (by omega)).2, (sl i x (by omega)).1, (sl i x (by omega)).2]
      refine ⟨g.1, fun ip => ?_, g.2.2⟩
      rw [show 16 * (p + f) + i - 1 = 16 * (p + f) + (i - 1) by omega, (sl (i - 1) (by omega) (by omega)).1]
      have := g.2.1 ip
      rw [show 16 * (p + f) + i - 1 = 16 * (p + f) + (i - 1) by omega] at this
      exact this
  have TGn : TG w1 := TG_p (p := p + f) (v := w 63 e) (x := β kk) C.2.2.2.2.2.2.2 (by omega) q32 (fun q x y => ⟨G1' _ _ (by omega), fun g => G1' _ _ (by omega)⟩) (fun j x y g => ⟨G1' _ _ (by omega), G1' _ _ (by omega)⟩) tx (fun i x y y2 => by
    by_cases ik : i = k
    · rw [ik]; exact Or.inl ⟨sk.2, sk.1⟩
    · exact Or.inr ⟨i, ⟨x, by omega, y2⟩, (sl i x (by omega)).2, (sl i x (by omega)).1⟩)
  have C2 : CHG β0 β D (e + 1) (e + 1) h0 w0 (bgh p (f + 1) F fl h1) w1 := by
    -- cell 364 is of no matter to the store
    have C1 : CHG β0 β D (e + 1) (e + 1) h0 w0 (bgh p (f + 1) F fl (st h 364 e (28 + 2 * kk))) w := by
      obtain ⟨R, K, Bd, FTs, ⟨l1, l2, l3, l4, l5⟩, P, O, tg⟩ := C
      have ce : ∀ a j, a ≤ 363 → bgh p (f + 1) F fl (st h 364 e (28 + 2 * kk)) a j = bgh p (f + 1) F fl h a j := fun a j g => (bg_z (P := fun a _ => a = 364) (fun a j g => c36 a j g)) a j (by show ¬ a = 364; omega)
      refine ⟨R, SKC_t K (fun a j x y => ce a j (by omega)), ⟨fun k' q => ?_, Bd.2⟩, fun q x y => FNT_t (FTs q x y) (fun j _ _ => ce _ _ (by rw [FO_4 y]; omega)) (fun i _ _ => ⟨ce _ _ (by rw [FO_4 y]; omega), ce _ _ (by rw [FO_4 y]; omega)⟩) ⟨rfl, rfl, rfl⟩ (fun _ _ _ => ⟨rfl, rfl⟩), ⟨fun k' q => ?_, fun k' x y => ?_, l3, ?_, l5⟩, ⟨fun q x y => ?_, P.2.1, P.2.2⟩, fun k' q => ?_, tg⟩
      · obtain ⟨y1, y2, y3, y4, y5⟩ := Bd.1 k' q
        rw [ce _ _ (by omega)]
        refine ⟨y1, y2, y3, y4, fun i i0 i1 => ?_⟩
        rw [ce _ _ (by omega)]; exact y5 i i0 i1
      · have := (Bd.1 k' q).1
        rw [ce _ _ (by omega)]; exact l1 k' q
      · rw [ce _ _ (by omega)]; exact l2 k' x y
      · rw [smi_c (g := fun k => bgh p (f + 1) F fl h (28 + 2 * k) 3) (fun k a b => ce _ _ (by omega))]; exact l4
      · obtain ⟨p1, p2⟩ := P.1 q x y
        exact ⟨fun j x y => by rw [ce _ _ (by omega)]; exact p1 j x y, fun i x y => by rw [ce _ _ (by omega), ce _ _ (by omega)]; exact p2 i x y⟩
      · obtain ⟨o1, o2, o3, o4, o5⟩ := O k' q
        have := (Bd.1 k' o1.1).1
        exact ⟨o1, by rw [ce _ _ (by omega)]; exact o2, fun i => by rw [ce _ _ (by omega)]; exact o3 i, o4, o5⟩
    refine cg_f C1 (p := p + f) (by omega) (bg_z (fun a j g => ?_)) (fun a j g => G1' a j (by omega)) FN TGn
    have g' : ¬ ((a = 252 + 6 * (p + f) ∧ 0 ≤ j ∧ j < 3) ∨ a = 252 + 6 * (p + f) + 1 ∨ a = 252 + 6 * (p + f) + 2) := g
    exact F1 a j (by unfold ptC; omega)
  have uo : ∀ (g : Int → Int) (v d : Int), d ≠ e → ufn g e v d = g d := fun g v d x => if_neg x
  have ue : ∀ (g : Int → Int) (v : Int), ufn g e v e = v := fun g v => if_pos rfl
  refine fin h1 w1 ⟨C2, fun d x y => ?_, fun d d' x y z sa => ?_, ⟨?_, ?_, ?_, ?_, ?_⟩, fun i x y => ?_⟩ (fun a j g => ?_) (fun a j g => ?_)
  · rw [G1' 66 _ (by omega), G1' 63 _ (by omega), h364]
    by_cases de : d = e
    · rw [de, ue, ue, if_pos rfl]
      exact ⟨⟨kD, rfl⟩, rfl, w6, p + f, k, by omega, by rw [G1' 55 _ (by omega)]; exact q32, ⟨k0.1, by omega, by omega⟩, sk.2, sk.1⟩
    · rw [uo _ _ _ de, uo _ _ _ de, if_neg de]
      obtain ⟨a1, a2, a3, q, i, i1, i2, i3, i4, i5⟩ := Q1 d x (by omega)
      refine ⟨a1, a2, a3, q, i, i1, by rw [G1' 55 _ (by omega)]; exact i2, ?_, ?_, ?_⟩
      · by_cases qe : q = p + f
        · rw [qe] at i3 ⊢; omega
        · rw [G1' 57 _ (by omega)]; exact i3
      · by_cases qe : q = p + f
        · rw [qe] at i3 i4 ⊢; rw [(sl i i3.1 (by omega)).2]; exact i4
        · rw [G1' 59 _ (by omega)]; exact i4
      · by_cases qe : q = p + f
        · rw [qe] at i3 i5 ⊢; rw [(sl i i3.1 (by omega)).1]; exact i5
        · rw [G1' 58 _ (by omega)]; exact i5
  · have sa' : sam w d d' := by
      unfold sam at sa ⊢
      rw [G1' 63 _ (by omega), G1' 63 _ (by omega), G1' 64 _ (by omega), G1' 64 _ (by omega), G1' 65 _ (by omega), G1' 65 _ (by omega)] at sa
      exact sa
    rw [uo _ _ _ (show d ≠ e by omega)]
    by_cases de : d' = e
    · rw [de, ue]
      rw [de] at sa'
      exact S d x (by omega) sa'
    · rw [uo _ _ _ de]
      exact Q2 d d' x y (by omega) sa'
  · rw [F1' _ _ (by omega) (by omega)]; exact q31
  · rw [G1' 55 _ (by omega)]; exact q32
  · exact p1
  · exact m1
  · rw [F1' _ _ (by omega) (by omega), G1' 56 _ (by omega)]; exact q35
  · rw [G1' 63 _ (by omega), show e + 1 - (k + 1) + i = e - k + i by omega]
    by_cases ik : i = k
    · rw [ik, sk.1, show e - k + k = e by omega]
    · rw [(sl i x (by omega)).1]; exact Q4 i x (by omega)
  · have g' : ¬ (((a = 24 ∧ (j = 3 ∨ j = 4)) ∨ (28 ≤ a ∧ a ≤ 275)) ∨ a = 364) := g
    exact F1' a j (by omega) (by omega)
  · have g' : ¬ ((52 ≤ a ∧ a ≤ 59) ∨ a = 66) := g
    exact G1' a j (by omega)
end
