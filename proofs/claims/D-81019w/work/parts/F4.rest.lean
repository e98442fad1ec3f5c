set_option maxRecDepth 100000
def kpM (a j : Int) : Prop := ((a = 55 ∨ a = 56 ∨ a = 57) ∧ 4 ≤ j ∧ j < 8) ∨ ((a = 58 ∨ a = 59) ∧ 64 ≤ j ∧ j < 128) ∨ a = 54
def unM (a j : Int) : Prop := ((a = 55 ∨ a = 56 ∨ a = 57) ∧ 0 ≤ j ∧ j < 4) ∨ ((a = 58 ∨ a = 59) ∧ 0 ≤ j ∧ j < 64)
def bsy (h : Mem) (k : Int) : Prop := 0 ≤ k ∧ k < 112 ∧ h (28 + 2 * k) 3 = 1
/-- tables with the same body have the same tag (model) -/
def TG (w : Mem) : Prop := ∀ p q i j : Int, (0 ≤ p ∧ p < 4) → (0 ≤ q ∧ q < 4) → w 55 p = 1 → w 55 q = 1 → (0 ≤ i ∧ i < w 57 p ∧ i < 16) → (0 ≤ j ∧ j < w 57 q ∧ j < 16) → w 59 (16 * p + i) = w 59 (16 * q + j) → w 58 (16 * p + i) = w 58 (16 * q + j)
theorem TG_t {w w1 : Mem} (T : TG w) (e : ∀ p : Int, 0 ≤ p → p < 4 → w1 55 p = w 55 p ∧ w1 57 p = w 57 p) (e2 : ∀ j : Int, 0 ≤ j → j < 64 → w1 58 j = w 58 j ∧ w1 59 j = w 59 j) : TG w1 := by
  intro p q i j p0 q0 hp hq i0 j0 z
  rw [(e p p0.1 p0.2).1] at hp
  rw [(e q q0.1 q0.2).1] at hq
  rw [(e p p0.1 p0.2).2] at i0
  rw [(e q q0.1 q0.2).2] at j0
  have a := e2 (16 * p + i) (by omega) (by omega)
  have b := e2 (16 * q + j) (by omega) (by omega)
  rw [a.2, b.2] at z
  rw [a.1, b.1]
  exact T p q i j p0 q0 hp hq i0 j0 z
/-- one font's tables change: each is an old one of the same font, or has body x and tag v -/
theorem TG_p {w w1 : Mem} {p v x : Int} (T : TG w) (p0 : 0 ≤ p ∧ p < 4) (hp : w 55 p = 1) (e : ∀ q : Int, 0 ≤ q → q < 4 → w1 55 q = w 55 q ∧ (q ≠ p → w1 57 q = w 57 q)) (e2 : ∀ j : Int, 0 ≤ j → j < 64 → ¬ (16 * p ≤ j ∧ j < 16 * p + 16) → w1 58 j = w 58 j ∧ w1 59 j = w 59 j) (tx : ∀ q i, (0 ≤ q ∧ q < 4) → w 55 q = 1 → (0 ≤ i ∧ i < w 57 q ∧ i < 16) → w 59 (16 * q + i) = x → w 58 (16 * q + i) = v)
    (c : ∀ i, 0 ≤ i → i < w1 57 p → i < 16 → (w1 59 (16 * p + i) = x ∧ w1 58 (16 * p + i) = v) ∨ ∃ i', (0 ≤ i' ∧ i' < w 57 p ∧ i' < 16) ∧ w1 59 (16 * p + i) = w 59 (16 * p + i') ∧ w1 58 (16 * p + i) = w 58 (16 * p + i')) : TG w1 := by
  have key : ∀ q i, (0 ≤ q ∧ q < 4) → w1 55 q = 1 → (0 ≤ i ∧ i < w1 57 q ∧ i < 16) → (w1 59 (16 * q + i) = x ∧ w1 58 (16 * q + i) = v) ∨ ∃ i', (0 ≤ i' ∧ i' < w 57 q ∧ i' < 16) ∧ w 55 q = 1 ∧ w1 59 (16 * q + i) = w 59 (16 * q + i') ∧ w1 58 (16 * q + i) = w 58 (16 * q + i') := by
    intro q i q0 hq i0
    rw [(e q q0.1 q0.2).1] at hq
    by_cases y : q = p
    · rw [y] at i0 ⊢
      rcases c i i0.1 i0.2.1 i0.2.2 with z | ⟨i', z1, z2, z3⟩
      · exact Or.inl z
      · exact Or.inr ⟨i', z1, hp, z2, z3⟩
    · rw [(e q q0.1 q0.2).2 y] at i0
      have z := e2 (16 * q + i) (by omega) (by omega) (by omega)
      exact Or.inr ⟨i, i0, hq, z.2, z.1⟩
  intro q r i j q0 r0 hq hr i0 j0 z
  rcases key q i q0 hq i0 with ⟨a1, a2⟩ | ⟨i', a0, ah, a1, a2⟩
  · rcases key r j r0 hr j0 with ⟨b1, b2⟩ | ⟨j', b0, bh, b1, b2⟩
    · rw [a2, b2]
    · rw [a2, b2]; exact (tx r j' r0 bh b0 (by rw [← b1, ← z]; exact a1)).symm
  · rcases key r j r0 hr j0 with ⟨b1, b2⟩ | ⟨j', b0, bh, b1, b2⟩
    · rw [a2, b2]; exact tx q i' q0 ah a0 (by rw [← a1, z]; exact b1)
    · rw [a2, b2]; exact T q r i' j' q0 r0 ah bh a0 b0 (by rw [← a1, ← b1]; exact z)
/-- the store at rest -/
def RSB (β : Int → Int) (h w : Mem) : Prop := SKC h ∧ BD β (bsy h) h w ∧ (∀ p : Int, 0 ≤ p → p < 4 → FNT β (bsy h) p h w) ∧ (∀ k, 0 ≤ k → k < 112 → h (28 + 2 * k) 3 = 0 ∨ h (28 + 2 * k) 3 = 1) ∧ (∀ k, bsy h k → uI w 64 (β k) = 1) ∧ (h 24 3 = smi (uI w 64) 120 ∧ h 24 3 ≤ 40) ∧ (h 24 4 = smi (fun b => uI w 64 b * w 53 b) 120 ∧ h 24 4 ≤ 30000) ∧ smi (fun k => h (28 + 2 * k) 3) 112 = smi (uI w 64) 120 ∧ TG w
def RST (h w : Mem) : Prop := ∃ β, RSB β h w
/-- uI looks at these cells alone -/
theorem uI_c {w w1 : Mem} {N x : Int} (n0 : 0 ≤ N) (e : ∀ j, 0 ≤ j → j < N → w1 55 (j / 16) = w 55 (j / 16) ∧ w1 57 (j / 16) = w 57 (j / 16) ∧ w1 59 j = w 59 j) : uI w1 N x = uI w N x := by
  unfold uI
  have : smi (slo w1 x) N = smi (slo w x) N := smi_c (fun j a b => by obtain ⟨e1, e2, e3⟩ := e j a b; unfold slo; rw [e1, e2, e3])
  rw [this]
theorem FNT_mo {β β' : Int → Int} {D D' : Int → Prop} {p : Int} {h w : Mem} (F : FNT β D p h w) (d : ∀ k i, w 55 p = 1 → 0 ≤ i → i < w 57 p → D k → w 59 (16 * p + i) = β k → D' k ∧ β' k = β k) : FNT β' D' p h w := by
  obtain ⟨t1, t2, t3⟩ := F
  refine ⟨t1, t2, fun hp => ?_⟩
  obtain ⟨c1, c2⟩ := t3 hp
  refine ⟨c1, fun i i0 i1 => ?_⟩
  obtain ⟨a1, a2, k, k1, k2, k3⟩ := c2 i i0 i1
  obtain ⟨d1, d2⟩ := d k i hp i0 i1 k1 k3
  exact ⟨a1, a2, k, d1, k2, by rw [d2]; exact k3⟩
theorem BD_mo {β : Int → Int} {D D' : Int → Prop} {h w : Mem} (B : BD β D h w) (d : ∀ k, D' k → D k) : BD β D' h w := ⟨fun k q => B.1 k (d k q), fun k k' q q' => B.2 k k' (d k q) (d k' q')⟩
/-- a font's cells alone matter -/
theorem FNT_t {β : Int → Int} {D : Int → Prop} {p : Int} {h w h1 w1 : Mem} (F : FNT β D p h w) (a1 : ∀ j, 0 ≤ j → j < 3 → h1 (FO p) j = h (FO p) j) (a2 : ∀ i, 0 ≤ i → i < 16 → h1 (FO p + 1) i = h (FO p + 1) i ∧ h1 (FO p + 2) i = h (FO p + 2) i) (b1 : w1 55 p = w 55 p ∧ w1 56 p = w 56 p ∧ w1 57 p = w 57 p) (b2 : ∀ i, 0 ≤ i → i < 16 → w1 58 (16 * p + i) = w 58 (16 * p + i) ∧ w1 59 (16 * p + i) = w 59 (16 * p + i)) : FNT β D p h1 w1 := by
  obtain ⟨t1, t2, t3⟩ := F
  refine ⟨by rw [a1 0 (by omega) (by omega), b1.1]; exact t1, by rw [b1.1]; exact t2, fun hp => ?_⟩
  rw [b1.1] at hp
  obtain ⟨c1, c2⟩ := t3 hp
  refine ⟨by rw [a1 1 (by omega) (by omega), a1 2 (by omega) (by omega), b1.2.1, b1.2.2]; exact c1, fun i i0 i1 => ?_⟩
  rw [b1.2.2] at i1
  rw [(a2 i i0 (by omega)).1, (a2 i i0 (by omega)).2, (b2 i i0 (by omega)).1, (b2 i i0 (by omega)).2]
  obtain ⟨x1, x2, x3⟩ := c2 i i0 i1
  refine ⟨x1, fun q => ?_, x3⟩
  have := (b2 (i - 1) (by omega) (by omega)).1
  rw [show 16 * p + (i - 1) = 16 * p + i - 1 by omega] at this
  rw [this]; exact x2 q
/-- the count gives rest -/
theorem rst_ci {β : Int → Int} {D : Int → Prop} {h w h1 : Mem} (K : SKC h) (B : BD β D h w) (FTs : ∀ p : Int, 0 ≤ p → p < 4 → FNT β D p h w) (C : CI β D 64 w h1) (F : Fz ctC h h1) (m1 : smi (uI w 64) 120 ≤ 40) (m2 : smi (fun b => uI w 64 b * w 53 b) 120 ≤ 30000) (tg : TG w) : RSB β h1 w := by
  obtain ⟨c1, c2, c3, c4⟩ := C
  have bd : ∀ k, bsy h1 k → D k ∧ uI w 64 (β k) = 1 := fun k q => by
    obtain ⟨q1, q2, q3⟩ := q
    rcases c1 k q1 q2 with z | z
    · exact ⟨z.1, by rw [← z.2]; exact q3⟩
    · rw [z.2] at q3; omega
  refine ⟨⟨fun k a b => (F _ _ (by unfold ctC; omega)).trans (K.1 k a b), fun p a b => (F _ _ (by unfold ctC; omega)).trans (K.2.1 p a b), fun p a b => (F _ _ (by unfold ctC; omega)).trans (K.2.2 p a b)⟩, ⟨fun k q => ?_, fun k k' q q' => B.2 k k' (bd k q).1 (bd k' q').1⟩, fun p p0 p1 => ?_, fun k a b => ?_, fun k q => (bd k q).2, ⟨c2, by omega⟩, ⟨c3, by omega⟩, c4, tg⟩
  · obtain ⟨b1, b2, b3, b4, b5⟩ := B.1 k (bd k q).1
    have e : h1 (28 + 2 * k) 1 = h (28 + 2 * k) 1 := F _ _ (by unfold ctC; omega)
    refine ⟨b1, b2, by rw [e]; exact b3, by rw [e]; exact b4, fun i i0 i1 => ?_⟩
    rw [e] at i1
    rw [F (29 + 2 * k) i (by unfold ctC; omega)]
    exact b5 i i0 i1
  · have g := FNT_mo (β' := β) (D' := bsy h1) (FTs p p0 p1) (fun k i hp i0 i1 kD ke => ⟨by
      have kb := (B.1 k kD).1
      have u : uI w 64 (β k) = 1 := (uI_iff 64).mpr ⟨16 * p + i, by omega, by
        have := ((FTs p p0 p1).2.2 hp).1.2.2.2
        show 16 * p + i < 64
        omega, by rw [show (16 * p + i) / 16 = p by have := ((FTs p p0 p1).2.2 hp).1.2.2.2; omega]; exact hp, by
        have := ((FTs p p0 p1).2.2 hp).1.2.2.2
        rw [show (16 * p + i) / 16 = p by omega, show (16 * p + i) % 16 = i by omega]; exact i1, ke⟩
      refine ⟨kb.1, kb.2, ?_⟩
      rcases c1 k kb.1 kb.2 with z | z
      · rw [z.2]; exact u
      · exact absurd kD z.1, rfl⟩)
    exact FNT_t g (fun j a b => F _ _ (by rw [FO_4 p1]; unfold ctC; omega)) (fun i a b => ⟨F _ _ (by rw [FO_4 p1]; unfold ctC; omega), F _ _ (by rw [FO_4 p1]; unfold ctC; omega)⟩) ⟨rfl, rfl, rfl⟩ (fun i _ _ => ⟨rfl, rfl⟩)
  · rcases c1 k a b with z | z
    · rw [z.2]; exact uI_r _ _ _
    · exact Or.inl z.2
section
variable {A B : Qt → Prop} {Φ : Out → Int → Mem → Out → Int → Mem → Prop} {KL KM : Qt → Qt} {n m : Int} {h w : Mem}
/-- the model keeps (313) -/
theorem m_keep {β : Int → Int} {D : Int → Prop} (FTs : ∀ p : Int, 0 ≤ p → p < 4 → FNT β D p h w) (Bd : BD β D h w) (fin : ∀ w1 : Mem, (∀ p : Int, 0 ≤ p → p < 4 → w1 55 (4 + p) = w 55 p ∧ w1 56 (4 + p) = w 56 p ∧ w1 57 (4 + p) = w 57 p) → (∀ j, 0 ≤ j → j < 64 → w1 58 (64 + j) = w 58 j ∧ w1 59 (64 + j) = w 59 j) → (∀ x, 0 ≤ x → x < 120 → w1 54 x = uI w 64 x) → Fz kpM w w1 → J2 A (fun Q => KM Q (.inl none) m w1) Φ) : J2 A (fun Q => T gM 313 [vR 33 17] m w (KM Q)) Φ := by
  refine J_impR (fun Q hq => T_go (md := true) [some (vR 33 17), none] [2] 99 (by decide) rfl (Nat.le_of_ble_eq_true rfl) GM FM rfl k313 hq) ?_
  simp -implicitDefEqProofs only [r_iconst, r_bipush, r_sipush, r_ldc, r_ldc_w, r_lconst, r_ldc2_w, r_aconst_null, r_iload, r_iload_n, r_lload, r_lload_n, r_aload, r_aload_n, r_istore, r_istore_n, r_lstore, r_lstore_n, r_astore, r_astore_n, r_iinc, r_iadd, r_iaddW, r_isub, r_isubW, r_imul, r_imulW, r_ladd, r_laddW, r_lsub, r_lsubW, r_lmul, r_lmulW, r_iand, r_ior, r_ishl, r_ishr, r_iushr, r_land, r_lor, r_lshl, r_lshr, r_lushr, r_idiv, r_irem, r_ldiv, r_lrem, r_lcmp, r_ineg, r_i2l, r_l2i, r_i2b, r_i2s, r_i2c, r_dup, r_pop, r_dup_x1, r_dup_x2, r_dup2, r_dup2L, r_icmp_eq, r_icmp_ne, r_icmp_lt, r_icmp_ge, r_icmp_gt, r_icmp_le, r_if_eq, r_if_ne, r_if_lt, r_if_ge, r_if_gt, r_if_le, r_acmp_eq, r_acmp_ne, r_ifnull, r_ifnonnull, r_goto, r_nop, r_tsw, r_lsw, r_getfield, r_getfinal, r_putfield, r_getstaticL, r_getstaticR, r_iaload, r_baload, r_saload, r_laload, r_aaload, r_aaloadM, r_iastore, r_bastore, r_zastore, r_sastore, r_lastore, r_aastore, r_alen, r_new, r_newarray, r_anewarray, r_invV, r_invI, r_objI, r_invS, r_acp, r_ireturn, r_zreturn, r_lreturn, r_return, r_areturn, r_athrow, ↓e_pI, ↓e_pL, ↓e_pR, ↓e_lg0, ↓e_lg1, ↓e_tk0, ↓e_tkI0, ↓e_tkI1, ↓e_tkI2, ↓e_tkI3, ↓e_tkI4, ↓e_tkL, ↓e_tkR0_0, ↓e_tkR0_1, ↓e_tkR1_0, ↓e_tkR1_1, ↓e_tkR2_0, ↓e_tkR2_1, ↓e_tkR3_0, ↓e_tkR3_1, ↓e_tkR4_0, ↓e_tkR4_1, ↓e_tkR5_0, ↓e_tkR5_1, ↓e_tkR6_0, ↓e_tkR6_1, ↓e_tkR7_0, ↓e_tkR7_1, ↓e_tkR8_0, ↓e_tkR8_1, ↓e_tkR9_0, ↓e_tkR9_1, ↓e_tkR10_0, ↓e_tkR10_1, ↓e_tkR11_0, ↓e_tkR11_1, ↓e_tkR12_0, ↓e_tkR12_1, ↓e_tkR13_0, ↓e_tkR13_1, ↓e_tkR14_0, ↓e_tkR14_1, ↓e_tkR15_0, ↓e_tkR15_1, ↓e_tkR16_0, ↓e_tkR16_1, ↓e_tkR17_0, ↓e_tkR17_1, ↓e_tkR39_0, ↓e_tkR39_1, ↓e_tkR40_0, ↓e_tkR40_1, ↓e_tkR41_0, ↓e_tkR41_1, ↓e_tkR42_0, ↓e_tkR42_1, ↓e_tkR43_0, ↓e_tkR43_1, ↓e_tkR44_0, ↓e_tkR44_1, ↓e_tkR45_0, ↓e_tkR45_1, ↓e_tkR46_0, ↓e_tkR46_1, ↓e_tkR47_0, ↓e_tkR47_1, ↓e_tkR48_0, ↓e_tkR48_1, ↓e_pv0, ↓e_pv1, ↓e_pv2, ↓e_pv3, ↓e_pv5, ↓e_pvR, ↓e_tsw0, ↓e_tsw1, ↓e_lsw0, ↓e_lsw1, e_kq100, e_kq0, e_kq3, e_kq5, e_kqR0, e_kqR1, e_kqR2, e_kqR3, e_kqR4, e_kqR5, e_kqR6, e_kqR7, e_kqR8, e_kqR9, e_kqR10, e_kqR11, e_kqR12, e_kqR13, e_kqR14, e_kqR15, e_kqR16, e_kqR17, e_kqR39, e_kqR40, e_kqR41, e_kqR42, e_kqR43, e_kqR44, e_kqR45, e_kqR46, e_kqR47, e_kqR48, e_st0I, e_st0R, e_st0L, e_st1N, e_st1I, e_st1L, e_st1R, e_st2, e_wd0, e_wdI, e_wdL, e_wdR, e_c1I, e_c1R, e_gv0, e_gv1, e_gv2, e_gv3, e_gv4, e_gv5, e_gvR0, e_gvR1, e_gvR2, e_gvR3, e_gvR4, e_gvR5, e_gvR6, e_gvR7, e_gvR8, e_gvR9, e_gvR10, e_gvR11, e_gvR12, e_gvR13, e_gvR14, e_gvR15, e_gvR16, e_gvR17, e_gvR39, e_gvR40, e_gvR41, e_gvR42, e_gvR43, e_gvR44, e_gvR45, e_gvR46, e_gvR47, e_gvR48, e_kX0, e_kX1, e_kVv, e_kVx, e_kIv, e_kIx, e_kLv, e_kLx, e_kRv, e_kRx, e_thr, e_lk1, e_ic0, e_ic1, e_jm, st_ap, clr_ap, e_lceq, e_lclt, e_lcgt, nn, ↓reduceIte, Nat.reduceDiv, Nat.reduceMod, Nat.reduceMul, Nat.reduceAdd, Nat.reduceEqDiff, Nat.reduceLeDiff, Int.reduceNatCast, Int.cast_ofNat_Int, Int.reduceSub, Int.reduceMul, Int.reduceNeg, Int.reduceAdd, Int.reduceLE, Int.reduceLT, Int.reduceEq, Int.reduceNe, true_and, and_true, true_or, and_self, ne_eq, not_false_eq_true, Bool.false_eq_true, reduceCtorEq, rd_l1, rd_l2, rd_l3, rd_l4, rd_l5, rd_l6, rd_l7, rd_l8, rd_l9, SB, rd_ge, i2b_2, false_and, and_false, not_true_eq_false, l313_0, l313_2, l313_21, s313_0, s313_2, s313_21, zM_18, zM_19, zM_20, zM_21, zM_22, zM_23, zM_24, zM_25, zM_26, zM_27, zM_28, zM_29, zM_30, zM_31, zM_32, zM_33, zM_34, zM_35, zM_36, zM_37, zM_38, zM_39, zM_40, zM_41, zM_42, zM_43, zM_44, zM_45, zM_46, zM_47, zM_48, zM_49, zM_50, zM_51, zM_52, zM_53, zM_54, zM_55, zM_56, zM_57, zM_58, zM_59, zM_60, zM_61, zM_62, zM_63, zM_64, zM_65, zM_66, zM_67, zM_68, zM_69, zM_70, zM_71, zM_72, zM_73, zM_74, zM_75, zM_76, zM_77, zM_78, zM_79, zM_80, zM_81, zM_82, zM_83, zM_84, zM_85, zM_86, zM_87, zM_88, zM_89, zM_90, zM_91, zM_92, zM_93, zM_94, zM_95, zM_96, zM_97, zM_98, zM_99, zM_100, zM_101, zM_102, zM_103, zM_104, zM_105, zM_106, zM_107, zM_108, zM_109, zM_110, zM_111, zM_112, zM_113, zM_114, zM_115, zM_116, zM_117, zM_118, zM_119]
  refine lp (F := fun k => ∀ w1 : Mem, (∀ p : Int, 0 ≤ p → p < k → w1 55 (4 + p) = w 55 p ∧ w1 56 (4 + p) = w 56 p ∧ w1 57 (4 + p) = w 57 p) → (∀ j, 0 ≤ j → j < 16 * k → w1 58 (64 + j) = w 58 j ∧ w1 59 (64 + j) = w 59 j) → Fz kpM w w1 → J2 A (fun Q => T_at gM 313 2 [some (vR 33 17), some (vI k)] [] m w1 (KM Q)) Φ) (b := 0) (n := 4) (by omega) ?_ ?_ w (fun p a b => by omega) (fun p a b => by omega) Fz_0
  · intro k k0 k1 ih w1 D1 D2 F
    have t2 := (FTs k k0 k1).2.1
    have f5 : w1 55 k = w 55 k := F _ _ (by unfold kpM; omega)
    obtain ⟨w2, ev, e1, e2, F2⟩ := m_take (m := m) (w := w1) (p := k) (q := 4 + k) (by omega) (by omega) (by omega) (by omega)
    refine J_impR (fun Q hq => blk (md := true) [2] 99 GM FM rfl k313 hq) ?_
    simp -implicitDefEqProofs only [r_iconst, r_bipush, r_sipush, r_ldc, r_ldc_w, r_lconst, r_ldc2_w, r_aconst_null, r_iload, r_iload_n, r_lload, r_lload_n, r_aload, r_aload_n, r_istore, r_istore_n, r_lstore, r_lstore_n, r_astore, r_astore_n, r_iinc, r_iadd, r_iaddW, r_isub, r_isubW, r_imul, r_imulW, r_ladd, r_laddW, r_lsub, r_lsubW, r_lmul, r_lmulW, r_iand, r_ior, r_ishl, r_ishr, r_iushr, r_land, r_lor, r_lshl, r_lshr, r_lushr, r_idiv, r_irem, r_ldiv, r_lrem, r_lcmp, r_ineg, r_i2l, r_l2i, r_i2b, r_i2s, r_i2c, r_dup, r_pop, r_dup_x1, r_dup_x2, r_dup2, r_dup2L, r_icmp_eq, r_icmp_ne, r_icmp_lt, r_icmp_ge, r_icmp_gt, r_icmp_le, r_if_eq, r_if_ne, r_if_lt, r_if_ge, r_if_gt, r_if_le, r_acmp_eq, r_acmp_ne, r_ifnull, r_ifnonnull, r_goto, r_nop, r_tsw, r_lsw, r_getfield, r_getfinal, r_putfield, r_getstaticL, r_getstaticR, r_iaload, r_baload, r_saload, r_laload, r_aaload, r_aaloadM, r_iastore, r_bastore, r_zastore, r_sastore, r_lastore, r_aastore, r_alen, r_new, r_newarray, r_anewarray, r_invV, r_invI, r_objI, r_invS, r_acp, r_ireturn, r_zreturn, r_lreturn, r_return, r_areturn, r_athrow, ↓e_pI, ↓e_pL, ↓e_pR, ↓e_lg0, ↓e_lg1, ↓e_tk0, ↓e_tkI0, ↓e_tkI1, ↓e_tkI2, ↓e_tkI3, ↓e_tkI4, ↓e_tkL, ↓e_tkR0_0, ↓e_tkR0_1, ↓e_tkR1_0, ↓e_tkR1_1, ↓e_tkR2_0, ↓e_tkR2_1, ↓e_tkR3_0, ↓e_tkR3_1, ↓e_tkR4_0, ↓e_tkR4_1, ↓e_tkR5_0, ↓e_tkR5_1, ↓e_tkR6_0, ↓e_tkR6_1, ↓e_tkR7_0, ↓e_tkR7_1, ↓e_tkR8_0, ↓e_tkR8_1, ↓e_tkR9_0, ↓e_tkR9_1, ↓e_tkR10_0, ↓e_tkR10_1, ↓e_tkR11_0, ↓e_tkR11_1, ↓e_tkR12_0, ↓e_tkR12_1, ↓e_tkR13_0, ↓e_tkR13_1, ↓e_tkR14_0, ↓e_tkR14_1, ↓e_tkR15_0, ↓e_tkR15_1, ↓e_tkR16_0, ↓e_tkR16_1, ↓e_tkR17_0, ↓e_tkR17_1, ↓e_tkR39_0, ↓e_tkR39_1, ↓e_tkR40_0, ↓e_tkR40_1, ↓e_tkR41_0, ↓e_tkR41_1, ↓e_tkR42_0, ↓e_tkR42_1, ↓e_tkR43_0, ↓e_tkR43_1, ↓e_tkR44_0, ↓e_tkR44_1, ↓e_tkR45_0, ↓e_tkR45_1, ↓e_tkR46_0, ↓e_tkR46_1, ↓e_tkR47_0, ↓e_tkR47_1, ↓e_tkR48_0, ↓e_tkR48_1, ↓e_pv0, ↓e_pv1, ↓e_pv2, ↓e_pv3, ↓e_pv5, ↓e_pvR, ↓e_tsw0, ↓e_tsw1, ↓e_lsw0, ↓e_lsw1, e_kq100, e_kq0, e_kq3, e_kq5, e_kqR0, e_kqR1, e_kqR2, e_kqR3, e_kqR4, e_kqR5, e_kqR6, e_kqR7, e_kqR8, e_kqR9, e_kqR10, e_kqR11, e_kqR12, e_kqR13, e_kqR14, e_kqR15, e_kqR16, e_kqR17, e_kqR39, e_kqR40, e_kqR41, e_kqR42, e_kqR43, e_kqR44, e_kqR45, e_kqR46, e_kqR47, e_kqR48, e_st0I, e_st0R, e_st0L, e_st1N, e_st1I, e_st1L, e_st1R, e_st2, e_wd0, e_wdI, e_wdL, e_wdR, e_c1I, e_c1R, e_gv0, e_gv1, e_gv2, e_gv3, e_gv4, e_gv5, e_gvR0, e_gvR1, e_gvR2, e_gvR3, e_gvR4, e_gvR5, e_gvR6, e_gvR7, e_gvR8, e_gvR9, e_gvR10, e_gvR11, e_gvR12, e_gvR13, e_gvR14, e_gvR15, e_gvR16, e_gvR17, e_gvR39, e_gvR40, e_gvR41, e_gvR42, e_gvR43, e_gvR44, e_gvR45, e_gvR46, e_gvR47, e_gvR48, e_kX0, e_kX1, e_kVv, e_kVx, e_kIv, e_kIx, e_kLv, e_kLx, e_kRv, e_kRx, e_thr, e_lk1, e_ic0, e_ic1, e_jm, st_ap, clr_ap, e_lceq, e_lclt, e_lcgt, nn, ↓reduceIte, Nat.reduceDiv, Nat.reduceMod, Nat.reduceMul, Nat.reduceAdd, Nat.reduceEqDiff, Nat.reduceLeDiff, Int.reduceNatCast, Int.cast_ofNat_Int, Int.reduceSub, Int.reduceMul, Int.reduceNeg, Int.reduceAdd, Int.reduceLE, Int.reduceLT, Int.reduceEq, Int.reduceNe, true_and, and_true, true_or, and_self, ne_eq, not_false_eq_true, Bool.false_eq_true, reduceCtorEq, rd_l1, rd_l2, rd_l3, rd_l4, rd_l5, rd_l6, rd_l7, rd_l8, rd_l9, SB, rd_ge, i2b_2, false_and, and_false, not_true_eq_false, l313_0, l313_2, l313_21, s313_0, s313_2, s313_21, zM_18, zM_19, zM_20, zM_21, zM_22, zM_23, zM_24, zM_25, zM_26, zM_27, zM_28, zM_29, zM_30, zM_31, zM_32, zM_33, zM_34, zM_35, zM_36, zM_37, zM_38, zM_39, zM_40, zM_41, zM_42, zM_43, zM_44, zM_45, zM_46, zM_47, zM_48, zM_49, zM_50, zM_51, zM_52, zM_53, zM_54, zM_55, zM_56, zM_57, zM_58, zM_59, zM_60, zM_61, zM_62, zM_63, zM_64, zM_65, zM_66, zM_67, zM_68, zM_69, zM_70, zM_71, zM_72, zM_73, zM_74, zM_75, zM_76, zM_77, zM_78, zM_79, zM_80, zM_81, zM_82, zM_83, zM_84, zM_85, zM_86, zM_87, zM_88, zM_89, zM_90, zM_91, zM_92, zM_93, zM_94, zM_95, zM_96, zM_97, zM_98, zM_99, zM_100, zM_101, zM_102, zM_103, zM_104, zM_105, zM_106, zM_107, zM_108, zM_109, zM_110, zM_111, zM_112, zM_113, zM_114, zM_115, zM_116, zM_117, zM_118, zM_119]
    repeat (first | refine J_andL (by first | omega | (constructor <;> omega)) ?_ | refine J_andR (by first | omega | (constructor <;> omega)) ?_ | refine J_posL (by first | omega | (constructor <;> omega)) ?_ | refine J_negL (by first | omega | (constructor <;> omega)) ?_ | refine J_posR (by first | omega | (constructor <;> omega)) ?_ | refine J_negR (by first | omega | (constructor <;> omega)) ?_)
    refine J_RV ev ?_
    repeat (first | refine J_andL (by first | omega | (constructor <;> omega)) ?_ | refine J_andR (by first | omega | (constructor <;> omega)) ?_ | refine J_posL (by first | omega | (constructor <;> omega)) ?_ | refine J_negL (by first | omega | (constructor <;> omega)) ?_ | refine J_posR (by first | omega | (constructor <;> omega)) ?_ | refine J_negR (by first | omega | (constructor <;> omega)) ?_)
    refine ih w2 (fun p a b => ?_) (fun j a b => ?_) (Fz_tr F (Fz_mo F2 (fun a j g => by unfold kpM; omega)))
    · by_cases g : p = k
      · rw [g, e1.1, e1.2.1, e1.2.2, F 55 k (by unfold kpM; omega), F 56 k (by unfold kpM; omega), F 57 k (by unfold kpM; omega)]; exact ⟨rfl, rfl, rfl⟩
      · rw [F2 55 _ (by omega), F2 56 _ (by omega), F2 57 _ (by omega)]; exact D1 p a (by omega)
    · by_cases g : 16 * k ≤ j
      · have := e2 (j - 16 * k) (by omega) (by omega)
        rw [show 16 * (4 + k) + (j - 16 * k) = 64 + j by omega, show 16 * k + (j - 16 * k) = j by omega] at this
        rw [this.1, this.2, F 58 j (by unfold kpM; omega), F 59 j (by unfold kpM; omega)]; exact ⟨rfl, rfl⟩
      · rw [F2 58 _ (by omega), F2 59 _ (by omega)]; exact D2 j a (by omega)
  · intro w1 D1 D2 F
    refine J_impR (fun Q hq => blk (md := true) [2] 99 GM FM rfl k313 hq) ?_
    simp -implicitDefEqProofs only [r_iconst, r_bipush, r_sipush, r_ldc, r_ldc_w, r_lconst, r_ldc2_w, r_aconst_null, r_iload, r_iload_n, r_lload, r_lload_n, r_aload, r_aload_n, r_istore, r_istore_n, r_lstore, r_lstore_n, r_astore, r_astore_n, r_iinc, r_iadd, r_iaddW, r_isub, r_isubW, r_imul, r_imulW, r_ladd, r_laddW, r_lsub, r_lsubW, r_lmul, r_lmulW, r_iand, r_ior, r_ishl, r_ishr, r_iushr, r_land, r_lor, r_lshl, r_lshr, r_lushr, r_idiv, r_irem, r_ldiv, r_lrem, r_lcmp, r_ineg, r_i2l, r_l2i, r_i2b, r_i2s, r_i2c, r_dup, r_pop, r_dup_x1, r_dup_x2, r_dup2, r_dup2L, r_icmp_eq, r_icmp_ne, r_icmp_lt, r_icmp_ge, r_icmp_gt, r_icmp_le, r_if_eq, r_if_ne, r_if_lt, r_if_ge, r_if_gt, r_if_le, r_acmp_eq, r_acmp_ne, r_ifnull, r_ifnonnull, r_goto, r_nop, r_tsw, r_lsw, r_getfield, r_getfinal, r_putfield, r_getstaticL, r_getstaticR, r_iaload, r_baload, r_saload, r_laload, r_aaload, r_aaloadM, r_iastore, r_bastore, r_zastore, r_sastore, r_lastore, r_aastore, r_alen, r_new, r_newarray, r_anewarray, r_invV, r_invI, r_objI, r_invS, r_acp, r_ireturn, r_zreturn, r_lreturn, r_return, r_areturn, r_athrow, ↓e_pI, ↓e_pL, ↓e_pR, ↓e_lg0, ↓e_lg1, ↓e_tk0, ↓e_tkI0, ↓e_tkI1, ↓e_tkI2, ↓e_tkI3, ↓e_tkI4, ↓e_tkL, ↓e_tkR0_0, ↓e_tkR0_1, ↓e_tkR1_0, ↓e_tkR1_1, ↓e_tkR2_0, ↓e_tkR2_1, ↓e_tkR3_0, ↓e_tkR3_1, ↓e_tkR4_0, ↓e_tkR4_1, ↓e_tkR5_0, ↓e_tkR5_1, ↓e_tkR6_0, ↓e_tkR6_1, ↓e_tkR7_0, ↓e_tkR7_1, ↓e_tkR8_0, ↓e_tkR8_1, ↓e_tkR9_0, ↓e_tkR9_1, ↓e_tkR10_0, ↓e_tkR10_1, ↓e_tkR11_0, ↓e_tkR11_1, ↓e_tkR12_0, ↓e_tkR12_1, ↓e_tkR13_0, ↓e_tkR13_1, ↓e_tkR14_0, ↓e_tkR14_1, ↓e_tkR15_0, ↓e_tkR15_1, ↓e_tkR16_0, ↓e_tkR16_1, ↓e_tkR17_0, ↓e_tkR17_1, ↓e_tkR39_0, ↓e_tkR39_1, ↓e_tkR40_0, ↓e_tkR40_1, ↓e_tkR41_0, ↓e_tkR41_1, ↓e_tkR42_0, ↓e_tkR42_1, ↓e_tkR43_0, ↓e_tkR43_1, ↓e_tkR44_0, ↓e_tkR44_1, ↓e_tkR45_0, ↓e_tkR45_1, ↓e_tkR46_0, ↓e_tkR46_1, ↓e_tkR47_0, ↓e_tkR47_1, ↓e_tkR48_0, ↓e_tkR48_1, ↓e_pv0, ↓e_pv1, ↓e_pv2, ↓e_pv3, ↓e_pv5, ↓e_pvR, ↓e_tsw0, ↓e_tsw1, ↓e_lsw0, ↓e_lsw1, e_kq100, e_kq0, e_kq3, e_kq5, e_kqR0, e_kqR1, e_kqR2, e_kqR3, e_kqR4, e_kqR5, e_kqR6, e_kqR7, e_kqR8, e_kqR9, e_kqR10, e_kqR11, e_kqR12, e_kqR13, e_kqR14, e_kqR15, e_kqR16, e_kqR17, e_kqR39, e_kqR40, e_kqR41, e_kqR42, e_kqR43, e_kqR44, e_kqR45, e_kqR46, e_kqR47, e_kqR48, e_st0I, e_st0R, e_st0L, e_st1N, e_st1I, e_st1L, e_st1R, e_st2, e_wd0, e_wdI, e_wdL, e_wdR, e_c1I, e_c1R, e_gv0, e_gv1, e_gv2, e_gv3, e_gv4, e_gv5, e_gvR0, e_gvR1, e_gvR2, e_gvR3, e_gvR4, e_gvR5, e_gvR6, e_gvR7, e_gvR8, e_gvR9, e_gvR10, e_gvR11, e_gvR12, e_gvR13, e_gvR14, e_gvR15, e_gvR16, e_gvR17, e_gvR39, e_gvR40, e_gvR41, e_gvR42, e_gvR43, e_gvR44, e_gvR45, e_gvR46, e_gvR47, e_gvR48, e_kX0, e_kX1, e_kVv, e_kVx, e_kIv, e_kIx, e_kLv, e_kLx, e_kRv, e_kRx, e_thr, e_lk1, e_ic0, e_ic1, e_jm, st_ap, clr_ap, e_lceq, e_lclt, e_lcgt, nn, ↓reduceIte, Nat.reduceDiv, Nat.reduceMod, Nat.reduceMul, Nat.reduceAdd, Nat.reduceEqDiff, Nat.reduceLeDiff, Int.reduceNatCast, Int.cast_ofNat_Int, Int.reduceSub, Int.reduceMul, Int.reduceNeg, Int.reduceAdd, Int.reduceLE, Int.reduceLT, Int.reduceEq, Int.reduceNe, true_and, and_true, true_or, and_self, ne_eq, not_false_eq_true, Bool.false_eq_true, reduceCtorEq, rd_l1, rd_l2, rd_l3, rd_l4, rd_l5, rd_l6, rd_l7, rd_l8, rd_l9, SB, rd_ge, i2b_2, false_and, and_false, not_true_eq_false, l313_0, l313_2, l313_21, s313_0, s313_2, s313_21, zM_18, zM_19, zM_20, zM_21, zM_22, zM_23, zM_24, zM_25, zM_26, zM_27, zM_28, zM_29, zM_30, zM_31, zM_32, zM_33, zM_34, zM_35, zM_36, zM_37, zM_38, zM_39, zM_40, zM_41, zM_42, zM_43, zM_44, zM_45, zM_46, zM_47, zM_48, zM_49, zM_50, zM_51, zM_52, zM_53, zM_54, zM_55, zM_56, zM_57, zM_58, zM_59, zM_60, zM_61, zM_62, zM_63, zM_64, zM_65, zM_66, zM_67, zM_68, zM_69, zM_70, zM_71, zM_72, zM_73, zM_74, zM_75, zM_76, zM_77, zM_78, zM_79, zM_80, zM_81, zM_82, zM_83, zM_84, zM_85, zM_86, zM_87, zM_88, zM_89, zM_90, zM_91, zM_92, zM_93, zM_94, zM_95, zM_96, zM_97, zM_98, zM_99, zM_100, zM_101, zM_102, zM_103, zM_104, zM_105, zM_106, zM_107, zM_108, zM_109, zM_110, zM_111, zM_112, zM_113, zM_114, zM_115, zM_116, zM_117, zM_118, zM_119]
    repeat (first | refine J_andL (by first | omega | (constructor <;> omega)) ?_ | refine J_andR (by first | omega | (constructor <;> omega)) ?_ | refine J_posL (by first | omega | (constructor <;> omega)) ?_ | refine J_negL (by first | omega | (constructor <;> omega)) ?_ | refine J_posR (by first | omega | (constructor <;> omega)) ?_ | refine J_negR (by first | omega | (constructor <;> omega)) ?_)
    have g5 : ∀ p : Int, 0 ≤ p → p < 4 → w1 55 p = w 55 p ∧ w1 57 p = w 57 p := fun p a b => ⟨F _ _ (by unfold kpM; omega), F _ _ (by unfold kpM; omega)⟩
    have g9 : ∀ j : Int, 0 ≤ j → j < 64 → w1 59 j = w 59 j := fun j a b => F _ _ (by unfold kpM; omega)
    have sl : ∀ p : Int, 0 ≤ p → p < 4 → (w 55 p = 0 ∨ w 55 p = 1) ∧ (w 55 p = 1 → (0 ≤ w 57 p ∧ w 57 p ≤ 16) ∧ ∀ i, 0 ≤ i → i < w 57 p → 0 ≤ w 59 (16 * p + i) ∧ w 59 (16 * p + i) < 120) := fun p a b => by
      obtain ⟨t1, t2, t3⟩ := FTs p a b
      refine ⟨t2, fun hp => ?_⟩
      obtain ⟨c1, c2⟩ := t3 hp
      refine ⟨by omega, fun i i0 i1 => ?_⟩
      obtain ⟨_, _, k, k1, k2, k3⟩ := c2 i i0 i1
      rw [k3]; exact (Bd.1 k k1).2.1
    refine m_mark (fun p p0 p1 => ?_) ?_
    · by_cases g : p < 4
      · obtain ⟨s1, s2⟩ := sl p p0 g
        rw [(g5 p p0 g).1, (g5 p p0 g).2]
        exact ⟨s1, fun hp => ⟨(s2 hp).1, fun i i0 i1 => by have := (s2 hp).1; rw [g9 _ (by omega) (by omega)]; exact (s2 hp).2 i i0 i1⟩⟩
      · obtain ⟨s1, s2⟩ := sl (p - 4) (by omega) (by omega)
        have d := D1 (p - 4) (by omega) (by omega)
        rw [show 4 + (p - 4) = p by omega] at d
        rw [d.1, d.2.2]
        refine ⟨s1, fun hp => ⟨(s2 hp).1, fun i i0 i1 => ?_⟩⟩
        have b9 := (s2 hp).1
        have := (D2 (16 * (p - 4) + i) (by omega) (by omega)).2
        rw [show 64 + (16 * (p - 4) + i) = 16 * p + i by omega] at this
        rw [this]; exact (s2 hp).2 i i0 i1
    · intro w2 D3 F2
      simp only [e_kVv]
      have f2 : ∀ a j, a ≠ 54 → w2 a j = w1 a j := fun a j g => F2 a j g
      refine fin w2 (fun p a b => by rw [f2 _ _ (by omega), f2 _ _ (by omega), f2 _ _ (by omega)]; exact D1 p a b) (fun j a b => by rw [f2 _ _ (by omega), f2 _ _ (by omega)]; exact D2 j a (by omega)) (fun x x0 x1 => ?_) (Fz_tr F (Fz_mo F2 (fun a j g => Or.inr (Or.inr g))))
      rw [D3 x x0 x1]
      -- the second four have the same bodies
      have e64 : uI w1 64 x = uI w 64 x := uI_c (by omega) (fun j a b => ⟨(g5 _ (by omega) (by omega)).1, (g5 _ (by omega) (by omega)).2, g9 j a b⟩)
      rcases uI_r w1 128 x with u | u
      · rcases uI_r w1 64 x with v | v
        · rw [u, ← e64, v]
        · rw [uI_m (by omega) (by omega) v] at u; omega
      · rw [u]
        obtain ⟨j, j0, j1, a, b, c⟩ := (uI_iff 128).mp u
        have j1 : j < 128 := j1
        rcases uI_r w 64 x with v | v
        · exfalso
          have : uI w 64 x = 1 := by
            by_cases g : j < 64
            · rw [← e64]; exact (uI_iff 64).mpr ⟨j, j0, g, a, b, c⟩
            · have d := D1 (j / 16 - 4) (by omega) (by omega)
              rw [show 4 + (j / 16 - 4) = j / 16 by omega] at d
              have d2 := (D2 (j - 64) (by omega) (by omega)).2
              rw [show 64 + (j - 64) = j by omega] at d2
              refine (uI_iff 64).mpr ⟨j - 64, by omega, by show j - 64 < 64; omega, ?_, ?_, ?_⟩
              · rw [show (j - 64) / 16 = j / 16 - 4 by omega, ← d.1]; exact a
              · rw [show (j - 64) / 16 = j / 16 - 4 by omega, ← d.2.2, show (j - 64) % 16 = j % 16 by omega]; exact b
              · rw [← d2]; exact c
          omega
        · exact v.symm
/-- the model's fonts are as they were kept (322) -/
theorem m_undo (b : ∀ p : Int, 0 ≤ p → p < 4 → 0 ≤ w 55 (4 + p) ∧ w 55 (4 + p) ≤ 1) (fin : ∀ w1 : Mem, (∀ p : Int, 0 ≤ p → p < 4 → w1 55 p = w 55 (4 + p) ∧ w1 56 p = w 56 (4 + p) ∧ w1 57 p = w 57 (4 + p)) → (∀ j, 0 ≤ j → j < 64 → w1 58 j = w 58 (64 + j) ∧ w1 59 j = w 59 (64 + j)) → Fz unM w w1 → J2 A (fun Q => KM Q (.inl none) m w1) Φ) : J2 A (fun Q => T gM 322 [vR 33 17] m w (KM Q)) Φ := by
  refine J_impR (fun Q hq => T_go (md := true) [some (vR 33 17), none] [2] 99 (by decide) rfl (Nat.le_of_ble_eq_true rfl) GM FM rfl k322 hq) ?_
  simp -implicitDefEqProofs only [r_iconst, r_bipush, r_sipush, r_ldc, r_ldc_w, r_lconst, r_ldc2_w, r_aconst_null, r_iload, r_iload_n, r_lload, r_lload_n, r_aload, r_aload_n, r_istore, r_istore_n, r_lstore, r_lstore_n, r_astore, r_astore_n, r_iinc, r_iadd, r_iaddW, r_isub, r_isubW, r_imul, r_imulW, r_ladd, r_laddW, r_lsub, r_lsubW, r_lmul, r_lmulW, r_iand, r_ior, r_ishl, r_ishr, r_iushr, r_land, r_lor, r_lshl, r_lshr, r_lushr, r_idiv, r_irem, r_ldiv, r_lrem, r_lcmp, r_ineg, r_i2l, r_l2i, r_i2b, r_i2s, r_i2c, r_dup, r_pop, r_dup_x1, r_dup_x2, r_dup2, r_dup2L, r_icmp_eq, r_icmp_ne, r_icmp_lt, r_icmp_ge, r_icmp_gt, r_icmp_le, r_if_eq, r_if_ne, r_if_lt, r_if_ge, r_if_gt, r_if_le, r_acmp_eq, r_acmp_ne, r_ifnull, r_ifnonnull, r_goto, r_nop, r_tsw, r_lsw, r_getfield, r_getfinal, r_putfield, r_getstaticL, r_getstaticR, r_iaload, r_baload, r_saload, r_laload, r_aaload, r_aaloadM, r_iastore, r_bastore, r_zastore, r_sastore, r_lastore, r_aastore, r_alen, r_new, r_newarray, r_anewarray, r_invV, r_invI, r_objI, r_invS, r_acp, r_ireturn, r_zreturn, r_lreturn, r_return, r_areturn, r_athrow, ↓e_pI, ↓e_pL, ↓e_pR, ↓e_lg0, ↓e_lg1, ↓e_tk0, ↓e_tkI0, ↓e_tkI1, ↓e_tkI2, ↓e_tkI3, ↓e_tkI4, ↓e_tkL, ↓e_tkR0_0, ↓e_tkR0_1, ↓e_tkR1_0, ↓e_tkR1_1, ↓e_tkR2_0, ↓e_tkR2_1, ↓e_tkR3_0, ↓e_tkR3_1, ↓e_tkR4_0, ↓e_tkR4_1, ↓e_tkR5_0, ↓e_tkR5_1, ↓e_tkR6_0, ↓e_tkR6_1, ↓e_tkR7_0, ↓e_tkR7_1, ↓e_tkR8_0, ↓e_tkR8_1, ↓e_tkR9_0, ↓e_tkR9_1, ↓e_tkR10_0, ↓e_tkR10_1, ↓e_tkR11_0, ↓e_tkR11_1, ↓e_tkR12_0, ↓e_tkR12_1, ↓e_tkR13_0, ↓e_tkR13_1, ↓e_tkR14_0, ↓e_tkR14_1, ↓e_tkR15_0, ↓e_tkR15_1, ↓e_tkR16_0, ↓e_tkR16_1, ↓e_tkR17_0, ↓e_tkR17_1, ↓e_tkR39_0, ↓e_tkR39_1, ↓e_tkR40_0, ↓e_tkR40_1, ↓e_tkR41_0, ↓e_tkR41_1, ↓e_tkR42_0, ↓e_tkR42_1, ↓e_tkR43_0, ↓e_tkR43_1, ↓e_tkR44_0, ↓e_tkR44_1, ↓e_tkR45_0, ↓e_tkR45_1, ↓e_tkR46_0, ↓e_tkR46_1, ↓e_tkR47_0, ↓e_tkR47_1, ↓e_tkR48_0, ↓e_tkR48_1, ↓e_pv0, ↓e_pv1, ↓e_pv2, ↓e_pv3, ↓e_pv5, ↓e_pvR, ↓e_tsw0, ↓e_tsw1, ↓e_lsw0, ↓e_lsw1, e_kq100, e_kq0, e_kq3, e_kq5, e_kqR0, e_kqR1, e_kqR2, e_kqR3, e_kqR4, e_kqR5, e_kqR6, e_kqR7, e_kqR8, e_kqR9, e_kqR10, e_kqR11, e_kqR12, e_kqR13, e_kqR14, e_kqR15, e_kqR16, e_kqR17, e_kqR39, e_kqR40, e_kqR41, e_kqR42, e_kqR43, e_kqR44, e_kqR45, e_kqR46, e_kqR47, e_kqR48, e_st0I, e_st0R, e_st0L, e_st1N, e_st1I, e_st1L, e_st1R, e_st2, e_wd0, e_wdI, e_wdL, e_wdR, e_c1I, e_c1R, e_gv0, e_gv1, e_gv2, e_gv3, e_gv4, e_gv5, e_gvR0, e_gvR1, e_gvR2, e_gvR3, e_gvR4, e_gvR5, e_gvR6, e_gvR7, e_gvR8, e_gvR9, e_gvR10, e_gvR11, e_gvR12, e_gvR13, e_gvR14, e_gvR15, e_gvR16, e_gvR17, e_gvR39, e_gvR40, e_gvR41, e_gvR42, e_gvR43, e_gvR44, e_gvR45, e_gvR46, e_gvR47, e_gvR48, e_kX0, e_kX1, e_kVv, e_kVx, e_kIv, e_kIx, e_kLv, e_kLx, e_kRv, e_kRx, e_thr, e_lk1, e_ic0, e_ic1, e_jm, st_ap, clr_ap, e_lceq, e_lclt, e_lcgt, nn, ↓reduceIte, Nat.reduceDiv, Nat.reduceMod, Nat.reduceMul, Nat.reduceAdd, Nat.reduceEqDiff, Nat.reduceLeDiff, Int.reduceNatCast, Int.cast_ofNat_Int, Int.reduceSub, Int.reduceMul, Int.reduceNeg, Int.reduceAdd, Int.reduceLE, Int.reduceLT, Int.reduceEq, Int.reduceNe, true_and, and_true, true_or, and_self, ne_eq, not_false_eq_true, Bool.false_eq_true, reduceCtorEq, rd_l1, rd_l2, rd_l3, rd_l4, rd_l5, rd_l6, rd_l7, rd_l8, rd_l9, SB, rd_ge, i2b_2, false_and, and_false, not_true_eq_false, l322_0, l322_2, l322_21, s322_0, s322_2, s322_21, zM_18, zM_19, zM_20, zM_21, zM_22, zM_23, zM_24, zM_25, zM_26, zM_27, zM_28, zM_29, zM_30, zM_31, zM_32, zM_33, zM_34, zM_35, zM_36, zM_37, zM_38, zM_39, zM_40, zM_41, zM_42, zM_43, zM_44, zM_45, zM_46, zM_47, zM_48, zM_49, zM_50, zM_51, zM_52, zM_53, zM_54, zM_55, zM_56, zM_57, zM_58, zM_59, zM_60, zM_61, zM_62, zM_63, zM_64, zM_65, zM_66, zM_67, zM_68, zM_69, zM_70, zM_71, zM_72, zM_73, zM_74, zM_75, zM_76, zM_77, zM_78, zM_79, zM_80, zM_81, zM_82, zM_83, zM_84, zM_85, zM_86, zM_87, zM_88, zM_89, zM_90, zM_91, zM_92, zM_93, zM_94, zM_95, zM_96, zM_97, zM_98, zM_99, zM_100, zM_101, zM_102, zM_103, zM_104, zM_105, zM_106, zM_107, zM_108, zM_109, zM_110, zM_111, zM_112, zM_113, zM_114, zM_115, zM_116, zM_117, zM_118, zM_119]
  refine lp (F := fun k => ∀ w1 : Mem, (∀ p : Int, 0 ≤ p → p < k → w1 55 p = w 55 (4 + p) ∧ w1 56 p = w 56 (4 + p) ∧ w1 57 p = w 57 (4 + p)) → (∀ j, 0 ≤ j → j < 16 * k → w1 58 j = w 58 (64 + j) ∧ w1 59 j = w 59 (64 + j)) → Fz unM w w1 → J2 A (fun Q => T_at gM 322 2 [some (vR 33 17), some (vI k)] [] m w1 (KM Q)) Φ) (b := 0) (n := 4) (by omega) ?_ ?_ w (fun p a b => by omega) (fun p a b => by omega) Fz_0
  · intro k k0 k1 ih w1 D1 D2 F
    have b0 := b k k0 k1
    have f5 : w1 55 (4 + k) = w 55 (4 + k) := F _ _ (by unfold unM; omega)
    obtain ⟨w2, ev, e1, e2, F2⟩ := m_take (m := m) (w := w1) (p := 4 + k) (q := k) (by omega) (by omega) (by omega) (by omega)
    refine J_impR (fun Q hq => blk (md := true) [2] 99 GM FM rfl k322 hq) ?_
    simp -implicitDefEqProofs only [r_iconst, r_bipush, r_sipush, r_ldc, r_ldc_w, r_lconst, r_ldc2_w, r_aconst_null, r_iload, r_iload_n, r_lload, r_lload_n, r_aload, r_aload_n, r_istore, r_istore_n, r_lstore, r_lstore_n, r_astore, r_astore_n, r_iinc, r_iadd, r_iaddW, r_isub, r_isubW, r_imul, r_imulW, r_ladd, r_laddW, r_lsub, r_lsubW, r_lmul, r_lmulW, r_iand, r_ior, r_ishl, r_ishr, r_iushr, r_land, r_lor, r_lshl, r_lshr, r_lushr, r_idiv, r_irem, r_ldiv, r_lrem, r_lcmp, r_ineg, r_i2l, r_l2i, r_i2b, r_i2s, r_i2c, r_dup, r_pop, r_dup_x1, r_dup_x2, r_dup2, r_dup2L, r_icmp_eq, r_icmp_ne, r_icmp_lt, r_icmp_ge, r_icmp_gt, r_icmp_le, r_if_eq, r_if_ne, r_if_lt, r_if_ge, r_if_gt, r_if_le, r_acmp_eq, r_acmp_ne, r_ifnull, r_ifnonnull, r_goto, r_nop, r_tsw, r_lsw, r_getfield, r_getfinal, r_putfield, r_getstaticL, r_getstaticR, r_iaload, r_baload, r_saload, r_laload, r_aaload, r_aaloadM, r_iastore, r_bastore, r_zastore, r_sastore, r_lastore, r_aastore, r_alen, r_new, r_newarray, r_anewarray, r_invV, r_invI, r_objI, r_invS, r_acp, r_ireturn, r_zreturn, r_lreturn, r_return, r_areturn, r_athrow, ↓e_pI, ↓e_pL, ↓e_pR, ↓e_lg0, ↓e_lg1, ↓e_tk0, ↓e_tkI0, ↓e_tkI1, ↓e_tkI2, ↓e_tkI3, ↓e_tkI4, ↓e_tkL, ↓e_tkR0_0, ↓e_tkR0_1, ↓e_tkR1_0, ↓e_tkR1_1, ↓e_tkR2_0, ↓e_tkR2_1, ↓e_tkR3_0, ↓e_tkR3_1, ↓e_tkR4_0, ↓e_tkR4_1, ↓e_tkR5_0, ↓e_tkR5_1, ↓e_tkR6_0, ↓e_tkR6_1, ↓e_tkR7_0, ↓e_tkR7_1, ↓e_tkR8_0, ↓e_tkR8_1, ↓e_tkR9_0, ↓e_tkR9_1, ↓e_tkR10_0, ↓e_tkR10_1, ↓e_tkR11_0, ↓e_tkR11_1, ↓e_tkR12_0, ↓e_tkR12_1, ↓e_tkR13_0, ↓e_tkR13_1, ↓e_tkR14_0, ↓e_tkR14_1, ↓e_tkR15_0, ↓e_tkR15_1, ↓e_tkR16_0, ↓e_tkR16_1, ↓e_tkR17_0, ↓e_tkR17_1, ↓e_tkR39_0, ↓e_tkR39_1, ↓e_tkR40_0, ↓e_tkR40_1, ↓e_tkR41_0, ↓e_tkR41_1, ↓e_tkR42_0, ↓e_tkR42_1, ↓e_tkR43_0, ↓e_tkR43_1, ↓e_tkR44_0, ↓e_tkR44_1, ↓e_tkR45_0, ↓e_tkR45_1, ↓e_tkR46_0, ↓e_tkR46_1, ↓e_tkR47_0, ↓e_tkR47_1, ↓e_tkR48_0, ↓e_tkR48_1, ↓e_pv0, ↓e_pv1, ↓e_pv2, ↓e_pv3, ↓e_pv5, ↓e_pvR, ↓e_tsw0, ↓e_tsw1, ↓e_lsw0, ↓e_lsw1, e_kq100, e_kq0, e_kq3, e_kq5, e_kqR0, e_kqR1, e_kqR2, e_kqR3, e_kqR4, e_kqR5, e_kqR6, e_kqR7, e_kqR8, e_kqR9, e_kqR10, e_kqR11, e_kqR12, e_kqR13, e_kqR14, e_kqR15, e_kqR16, e_kqR17, e_kqR39, e_kqR40, e_kqR41, e_kqR42, e_kqR43, e_kqR44, e_kqR45, e_kqR46, e_kqR47, e_kqR48, e_st0I, e_st0R, e_st0L, e_st1N, e_st1I, e_st1L, e_st1R, e_st2, e_wd0, e_wdI, e_wdL, e_wdR, e_c1I, e_c1R, e_gv0, e_gv1, e_gv2, e_gv3, e_gv4, e_gv5, e_gvR0, e_gvR1, e_gvR2, e_gvR3, e_gvR4, e_gvR5, e_gvR6, e_gvR7, e_gvR8, e_gvR9, e_gvR10, e_gvR11, e_gvR12, e_gvR13, e_gvR14, e_gvR15, e_gvR16, e_gvR17, e_gvR39, e_gvR40, e_gvR41, e_gvR42, e_gvR43, e_gvR44, e_gvR45, e_gvR46, e_gvR47, e_gvR48, e_kX0, e_kX1, e_kVv, e_kVx, e_kIv, e_kIx, e_kLv, e_kLx, e_kRv, e_kRx, e_thr, e_lk1, e_ic0, e_ic1, e_jm, st_ap, clr_ap, e_lceq, e_lclt, e_lcgt, nn, ↓reduceIte, Nat.reduceDiv, Nat.reduceMod, Nat.reduceMul, Nat.reduceAdd, Nat.reduceEqDiff, Nat.reduceLeDiff, Int.reduceNatCast, Int.cast_ofNat_Int, Int.reduceSub, Int.reduceMul, Int.reduceNeg, Int.reduceAdd, Int.reduceLE, Int.reduceLT, Int.reduceEq, Int.reduceNe, true_and, and_true, true_or, and_self, ne_eq, not_false_eq_true, Bool.false_eq_true, reduceCtorEq, rd_l1, rd_l2, rd_l3, rd_l4, rd_l5, rd_l6, rd_l7, rd_l8, rd_l9, SB, rd_ge, i2b_2, false_and, and_false, not_true_eq_false, l322_0, l322_2, l322_21, s322_0, s322_2, s322_21, zM_18, zM_19, zM_20, zM_21, zM_22, zM_23, zM_24, zM_25, zM_26, zM_27, zM_28, zM_29, zM_30, zM_31, zM_32, zM_33, zM_34, zM_35, zM_36, zM_37, zM_38, zM_39, zM_40, zM_41, zM_42, zM_43, zM_44, zM_45, zM_46, zM_47, zM_48, zM_49, zM_50, zM_51, zM_52, zM_53, zM_54, zM_55, zM_56, zM_57, zM_58, zM_59, zM_60, zM_61, zM_62, zM_63, zM_64, zM_65, zM_66, zM_67, zM_68, zM_69, zM_70, zM_71, zM_72, zM_73, zM_74, zM_75, zM_76, zM_77, zM_78, zM_79, zM_80, zM_81, zM_82, zM_83, zM_84, zM_85, zM_86, zM_87, zM_88, zM_89, zM_90, zM_91, zM_92, zM_93, zM_94, zM_95, zM_96, zM_97, zM_98, zM_99, zM_100, zM_101, zM_102, zM_103, zM_104, zM_105, zM_106, zM_107, zM_108, zM_109, zM_110, zM_111, zM_112, zM_113, zM_114, zM_115, zM_116, zM_117, zM_118, zM_119]
    repeat (first | refine J_andL (by first | omega | (constructor <;> omega)) ?_ | refine J_andR (by first | omega | (constructor <;> omega)) ?_ | refine J_posL (by first | omega | (constructor <;> omega)) ?_ | refine J_negL (by first | omega | (constructor <;> omega)) ?_ | refine J_posR (by first | omega | (constructor <;> omega)) ?_ | refine J_negR (by first | omega | (constructor <;> omega)) ?_)
    refine J_RV ev ?_
    repeat (first | refine J_andL (by first | omega | (constructor <;> omega)) ?_ | refine J_andR (by first | omega | (constructor <;> omega)) ?_ | refine J_posL (by first | omega | (constructor <;> omega)) ?_ | refine J_negL (by first | omega | (constructor <;> omega)) ?_ | refine J_posR (by first | omega | (constructor <;> omega)) ?_ | refine J_negR (by first | omega | (constructor <;> omega)) ?_)
    refine ih w2 (fun p a b => ?_) (fun j a b => ?_) (Fz_tr F (Fz_mo F2 (fun a j g => by unfold unM; omega)))
    · by_cases g : p = k
      · rw [g, e1.1, e1.2.1, e1.2.2, F 55 (4 + k) (by unfold unM; omega), F 56 (4 + k) (by unfold unM; omega), F 57 (4 + k) (by unfold unM; omega)]; exact ⟨rfl, rfl, rfl⟩
      · rw [F2 55 _ (by omega), F2 56 _ (by omega), F2 57 _ (by omega)]; exact D1 p a (by omega)
    · by_cases g : 16 * k ≤ j
      · have := e2 (j - 16 * k) (by omega) (by omega)
        rw [show 16 * (4 + k) + (j - 16 * k) = 64 + j by omega, show 16 * k + (j - 16 * k) = j by omega] at this
        rw [this.1, this.2, F 58 (64 + j) (by unfold unM; omega), F 59 (64 + j) (by unfold unM; omega)]; exact ⟨rfl, rfl⟩
      · rw [F2 58 _ (by omega), F2 59 _ (by omega)]; exact D2 j a (by omega)
  · intro w1 D1 D2 F
    refine J_impR (fun Q hq => blk (md := true) [2] 99 GM FM rfl k322 hq) ?_
    simp -implicitDefEqProofs only [r_iconst, r_bipush, r_sipush, r_ldc, r_ldc_w, r_lconst, r_ldc2_w, r_aconst_null, r_iload, r_iload_n, r_lload, r_lload_n, r_aload, r_aload_n, r_istore, r_istore_n, r_lstore, r_lstore_n, r_astore, r_astore_n, r_iinc, r_iadd, r_iaddW, r_isub, r_isubW, r_imul, r_imulW, r_ladd, r_laddW, r_lsub, r_lsubW, r_lmul, r_lmulW, r_iand, r_ior, r_ishl, r_ishr, r_iushr, r_land, r_lor, r_lshl, r_lshr, r_lushr, r_idiv, r_irem, r_ldiv, r_lrem, r_lcmp, r_ineg, r_i2l, r_l2i, r_i2b, r_i2s, r_i2c, r_dup, r_pop, r_dup_x1, r_dup_x2, r_dup2, r_dup2L, r_icmp_eq, r_icmp_ne, r_icmp_lt, r_icmp_ge, r_icmp_gt, r_icmp_le, r_if_eq, r_if_ne, r_if_lt, r_if_ge, r_if_gt, r_if_le, r_acmp_eq, r_acmp_ne, r_ifnull, r_ifnonnull, r_goto, r_nop, r_tsw, r_lsw, r_getfield, r_getfinal, r_putfield, r_getstaticL, r_getstaticR, r_iaload, r_baload, r_saload, r_laload, r_aaload, r_aaloadM, r_iastore, r_bastore, r_zastore, r_sastore, r_lastore, r_aastore, r_alen, r_new, r_newarray, r_anewarray, r_invV, r_invI, r_objI, r_invS, r_acp, r_ireturn, r_zreturn, r_lreturn, r_return, r_areturn, r_athrow, ↓e_pI, ↓e_pL, ↓e_pR, ↓e_lg0, ↓e_lg1, ↓e_tk0, ↓e_tkI0, ↓e_tkI1, ↓e_tkI2, ↓e_tkI3, ↓e_tkI4, ↓e_tkL, ↓e_tkR0_0, ↓e_tkR0_1, ↓e_tkR1_0, ↓e_tkR1_1, ↓e_tkR2_0, ↓e_tkR2_1, ↓e_tkR3_0, ↓e_tkR3_1, ↓e_tkR4_0, ↓e_tkR4_1, ↓e_tkR5_0, ↓e_tkR5_1, ↓e_tkR6_0, ↓e_tkR6_1, ↓e_tkR7_0, ↓e_tkR7_1, ↓e_tkR8_0, ↓e_tkR8_1, ↓e_tkR9_0, ↓e_tkR9_1, ↓e_tkR10_0, ↓e_tkR10_1, ↓e_tkR11_0, ↓e_tkR11_1, ↓e_tkR12_0, ↓e_tkR12_1, ↓e_tkR13_0, ↓e_tkR13_1, ↓e_tkR14_0, ↓e_tkR14_1, ↓e_tkR15_0, ↓e_tkR15_1, ↓e_tkR16_0, ↓e_tkR16_1, ↓e_tkR17_0, ↓e_tkR17_1, ↓e_tkR39_0, ↓e_tkR39_1, ↓e_tkR40_0, ↓e_tkR40_1, ↓e_tkR41_0, ↓e_tkR41_1, ↓e_tkR42_0, ↓e_tkR42_1, ↓e_tkR43_0, ↓e_tkR43_1, ↓e_tkR44_0, ↓e_tkR44_1, ↓e_tkR45_0, ↓e_tkR45_1, ↓e_tkR46_0, ↓e_tkR46_1, ↓e_tkR47_0, ↓e_tkR47_1, ↓e_tkR48_0, ↓e_tkR48_1, ↓e_pv0, ↓e_pv1, ↓e_pv2, ↓e_pv3, ↓e_pv5, ↓e_pvR, ↓e_tsw0, ↓e_tsw1, ↓e_lsw0, ↓e_lsw1, e_kq100, e_kq0, e_kq3, e_kq5, e_kqR0, e_kqR1, e_kqR2, e_kqR3, e_kqR4, e_kqR5, e_kqR6, e_kqR7, e_kqR8, e_kqR9, e_kqR10, e_kqR11, e_kqR12, e_kqR13, e_kqR14, e_kqR15, e_kqR16, e_kqR17, e_kqR39, e_kqR40, e_kqR41, e_kqR42, e_kqR43, e_kqR44, e_kqR45, e_kqR46, e_kqR47, e_kqR48, e_st0I, e_st0R, e_st0L, e_st1N, e_st1I, e_st1L, e_st1R, e_st2, e_wd0, e_wdI, e_wdL, e_wdR, e_c1I, e_c1R, e_gv0, e_gv1, e_gv2, e_gv3, e_gv4, e_gv5, e_gvR0, e_gvR1, e_gvR2, e_gvR3, e_gvR4, e_gvR5, e_gvR6, e_gvR7, e_gvR8, e_gvR9, e_gvR10, e_gvR11, e_gvR12, e_gvR13, e_gvR14, e_gvR15, e_gvR16, e_gvR17, e_gvR39, e_gvR40, e_gvR41, e_gvR42, e_gvR43, e_gvR44, e_gvR45, e_gvR46, e_gvR47, e_gvR48, e_kX0, e_kX1, e_kVv, e_kVx, e_kIv, e_kIx, e_kLv, e_kLx, e_kRv, e_kRx, e_thr, e_lk1, e_ic0, e_ic1, e_jm, st_ap, clr_ap, e_lceq, e_lclt, e_lcgt, nn, ↓reduceIte, Nat.reduceDiv, Nat.reduceMod, Nat.reduceMul, Nat.reduceAdd, Nat.reduceEqDiff, Nat.reduceLeDiff, Int.reduceNatCast, Int.cast_ofNat_Int, Int.reduceSub, Int.reduceMul, Int.reduceNeg, Int.reduceAdd, Int.reduceLE, Int.reduceLT, Int.reduceEq, Int.reduceNe, true_and, and_true, true_or, and_self, ne_eq, not_false_eq_true, Bool.false_eq_true, reduceCtorEq, rd_l1, rd_l2, rd_l3, rd_l4, rd_l5, rd_l6, rd_l7, rd_l8, rd_l9, SB, rd_ge, i2b_2, false_and, and_false, not_true_eq_false, l322_0, l322_2, l322_21, s322_0, s322_2, s322_21, zM_18, zM_19, zM_20, zM_21, zM_22, zM_23, zM_24, zM_25, zM_26, zM_27, zM_28, zM_29, zM_30, zM_31, zM_32, zM_33, zM_34, zM_35, zM_36, zM_37, zM_38, zM_39, zM_40, zM_41, zM_42, zM_43, zM_44, zM_45, zM_46, zM_47, zM_48, zM_49, zM_50, zM_51, zM_52, zM_53, zM_54, zM_55, zM_56, zM_57, zM_58, zM_59, zM_60, zM_61, zM_62, zM_63, zM_64, zM_65, zM_66, zM_67, zM_68, zM_69, zM_70, zM_71, zM_72, zM_73, zM_74, zM_75, zM_76, zM_77, zM_78, zM_79, zM_80, zM_81, zM_82, zM_83, zM_84, zM_85, zM_86, zM_87, zM_88, zM_89, zM_90, zM_91, zM_92, zM_93, zM_94, zM_95, zM_96, zM_97, zM_98, zM_99, zM_100, zM_101, zM_102, zM_103, zM_104, zM_105, zM_106, zM_107, zM_108, zM_109, zM_110, zM_111, zM_112, zM_113, zM_114, zM_115, zM_116, zM_117, zM_118, zM_119]
    repeat (first | refine J_andL (by first | omega | (constructor <;> omega)) ?_ | refine J_andR (by first | omega | (constructor <;> omega)) ?_ | refine J_posL (by first | omega | (constructor <;> omega)) ?_ | refine J_negL (by first | omega | (constructor <;> omega)) ?_ | refine J_posR (by first | omega | (constructor <;> omega)) ?_ | refine J_negR (by first | omega | (constructor <;> omega)) ?_)
    exact fin w1 D1 D2 F
end
