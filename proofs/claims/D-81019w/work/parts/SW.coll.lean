set_option maxRecDepth 100000
/-- one entry, alike on both sides -/
def EN1q (β : Int → Int) (e : Int) (h w : Mem) : Prop := h 420 e = w 102 e ∧ (h 425 e = w 107 e ∧ (0 ≤ w 107 e ∧ w 107 e < 4) ∧ w 55 (w 107 e) = 1) ∧ (∃ k, bsy h k ∧ h 424 e = 28 + 2 * k ∧ w 106 e = β k) ∧ (∃ i, (0 ≤ i ∧ i < w 57 (w 107 e) ∧ i < 16) ∧ w 58 (16 * w 107 e + i) = w 102 e ∧ w 59 (16 * w 107 e + i) = w 106 e) ∧ h 421 e = 0
/-- glyf and loca stand side by side -/
def ENSq (c : Int) (w : Mem) : Prop := ∀ e, 0 ≤ e → e < c → (w 102 e = 1735162214 → e + 1 < c ∧ w 102 (e + 1) = 1819239265) ∧ (w 102 e = 1819239265 → 1 ≤ e ∧ w 102 (e - 1) = 1735162214)
def ENQ (β : Int → Int) (c : Int) (h w : Mem) : Prop := h 419 0 = c ∧ w 17 128 = c ∧ (0 ≤ c ∧ c ≤ 40) ∧ (∀ e, 0 ≤ e → e < c → EN1q β e h w) ∧ ENSq c w
/-- the entry of table i of font p is right -/
def EOK (c p i : Int) (w : Mem) : Prop :=
  (w 58 (16 * p + i) = 1735162214 → ∀ j, 0 ≤ j → j < w 57 p → w 58 (16 * p + j) = 1819239265 → 0 ≤ w 108 (16 * p + i) ∧ FST (fun e => w 106 e = w 59 (16 * p + i) ∧ e + 1 < c ∧ w 106 (e + 1) = w 59 (16 * p + j)) c (w 108 (16 * p + i))) ∧
  (w 58 (16 * p + i) = 1819239265 → ∀ j, 0 ≤ j → j < w 57 p → w 58 (16 * p + j) = 1735162214 → 1 ≤ w 108 (16 * p + i) ∧ FST (fun e => w 106 e = w 59 (16 * p + j) ∧ e + 1 < c ∧ w 106 (e + 1) = w 59 (16 * p + i)) c (w 108 (16 * p + i) - 1)) ∧
  (w 58 (16 * p + i) ≠ 1735162214 → w 58 (16 * p + i) ≠ 1819239265 → w 58 (16 * p + i) ≠ 1146308935 → 0 ≤ w 108 (16 * p + i) ∧ FST (fun e => w 106 e = w 59 (16 * p + i)) c (w 108 (16 * p + i)))
def coC (a j : Int) : Prop := (a = 419 ∧ (j = 0 ∨ j = 7)) ∨ a = 420 ∨ a = 421 ∨ a = 424 ∨ a = 425
def coM (a j : Int) : Prop := (a = 17 ∧ j = 128) ∨ a = 102 ∨ a = 106 ∨ a = 107 ∨ a = 108
theorem fst_x {f g : Int → Int} {c c' r b l : Int} (cc : c ≤ c') (r0 : 0 ≤ r) (e : ∀ i, 0 ≤ i → i < c → g i = f i) (F : FST (fun i => f i = b ∧ i + 1 < c ∧ f (i + 1) = l) c r) : FST (fun i => g i = b ∧ i + 1 < c' ∧ g (i + 1) = l) c' r := by
  rcases F with ⟨a, -⟩ | ⟨a, ⟨q1, q2, q3⟩, q4⟩
  · omega
  · refine Or.inr ⟨by omega, ⟨by rw [e r a.1 a.2]; exact q1, by omega, by rw [e _ (by omega) q2]; exact q3⟩, fun i i0 i1 z => q4 i i0 i1 ⟨?_, by omega, ?_⟩⟩
    · rw [← e i i0 (by omega)]; exact z.1
    · rw [← e (i + 1) (by omega) (by omega)]; exact z.2.2
theorem fst_y {f g : Int → Int} {c c' r b : Int} (cc : c ≤ c') (r0 : 0 ≤ r) (e : ∀ i, 0 ≤ i → i < c → g i = f i) (F : FST (fun i => f i = b) c r) : FST (fun i => g i = b) c' r := by
  rcases F with ⟨a, -⟩ | ⟨a, q1, q4⟩
  · omega
  · refine Or.inr ⟨by omega, by rw [← q1]; exact e r a.1 a.2, fun i i0 i1 z => q4 i i0 i1 (by show f i = b; rw [← e i i0 (by omega)]; exact z)⟩
/-- entries come behind -/
theorem EOK_x {c c' p i : Int} {w w1 : Mem} (K : EOK c p i w) (cc : c ≤ c') (e6 : ∀ e, 0 ≤ e → e < c → w1 106 e = w 106 e) (e5 : ∀ a j, 57 ≤ a → a ≤ 59 → w1 a j = w a j) (e8 : w1 108 (16 * p + i) = w 108 (16 * p + i)) : EOK c' p i w1 := by
  unfold EOK at K ⊢
  rw [e8, show w1 58 = w 58 from funext fun j => e5 _ _ (by omega) (by omega), show w1 59 = w 59 from funext fun j => e5 _ _ (by omega) (by omega), show w1 57 = w 57 from funext fun j => e5 _ _ (by omega) (by omega)]
  refine ⟨fun t j j0 j1 tj => ?_, fun t j j0 j1 tj => ?_, fun t1 t2 t3 => ?_⟩
  · obtain ⟨a, b⟩ := K.1 t j j0 j1 tj
    exact ⟨a, fst_x cc a e6 b⟩
  · obtain ⟨a, b⟩ := K.2.1 t j j0 j1 tj
    exact ⟨a, fst_x cc (by omega) e6 b⟩
  · obtain ⟨a, b⟩ := K.2.2 t1 t2 t3
    exact ⟨a, fst_y cc a e6 b⟩
theorem bsy_t {h h1 : Mem} {k : Int} (e : ∀ a j, 28 ≤ a → a ≤ 251 → h1 a j = h a j) (b : bsy h k) : bsy h1 k := ⟨b.1, b.2.1, by have := b.1; have := b.2.1; rw [e _ _ (by omega) (by omega)]; exact b.2.2⟩
theorem EN1q_t {β : Int → Int} {e : Int} {h w h1 w1 : Mem} (E : EN1q β e h w) (f : ∀ a j, (28 ≤ a ∧ a ≤ 251) → h1 a j = h a j) (f2 : h1 420 e = h 420 e ∧ h1 421 e = h 421 e ∧ h1 424 e = h 424 e ∧ h1 425 e = h 425 e) (g : ∀ a j, 55 ≤ a ∧ a ≤ 59 → w1 a j = w a j) (g2 : w1 102 e = w 102 e ∧ w1 106 e = w 106 e ∧ w1 107 e = w 107 e) : EN1q β e h1 w1 := by
  unfold EN1q at E ⊢
  rw [f2.1, f2.2.1, f2.2.2.1, f2.2.2.2, g2.1, g2.2.1, g2.2.2, show w1 58 = w 58 from funext fun j => g _ _ (by omega), show w1 59 = w 59 from funext fun j => g _ _ (by omega), show w1 57 = w 57 from funext fun j => g _ _ (by omega), show w1 55 = w 55 from funext fun j => g _ _ (by omega)]
  obtain ⟨a, b, ⟨k, c1, c2, c3⟩, d⟩ := E
  exact ⟨a, b, ⟨k, bsy_t (fun a j x y => f a j ⟨x, y⟩) c1, c2, c3⟩, d⟩
/-- bodies of entries, against a table's -/
theorem enq_b {β : Int → Int} {c p i k e : Int} {h w : Mem} (R : RSB β h w) (E : ENQ β c h w) (p0 : 0 ≤ p ∧ p < 4) (hp : w 55 p = 1) (i0 : 0 ≤ i ∧ i < w 57 p ∧ i < 16) (bk : bsy h k) (ek : w 59 (16 * p + i) = β k) (e0 : 0 ≤ e ∧ e < c) : (h 424 e = 28 + 2 * k ↔ w 106 e = w 59 (16 * p + i)) ∧ (w 106 e = w 59 (16 * p + i) → w 102 e = w 58 (16 * p + i)) := by
  obtain ⟨-, B, -, -, -, -, -, -, tg⟩ := R
  obtain ⟨-, ⟨q2, q3, q4⟩, ⟨k', c1, c2, c3⟩, ⟨i', d1, d2, d3⟩, -⟩ := E.2.2.2.1 e e0.1 e0.2
  refine ⟨⟨fun z => ?_, fun z => ?_⟩, fun z => ?_⟩
  · rw [c3, ek, show k' = k by omega]
  · rw [c2, B.2 k' k c1 bk (by rw [← c3, ← ek]; exact z)]
  · rw [← d2]
    exact tg (w 107 e) p i' i q3 p0 q4 hp d1 i0 (by rw [d3]; exact z)
/-- an entry is added -/
theorem ENQ_a {β : Int → Int} {c p i k v : Int} {h w : Mem} (E0 : h 419 0 = c ∧ w 17 128 = c ∧ (0 ≤ c ∧ c < 40) ∧ ∀ e, 0 ≤ e → e < c → EN1q β e h w) (p0 : 0 ≤ p ∧ p < 4) (hp : w 55 p = 1) (i0 : 0 ≤ i ∧ i < w 57 p ∧ i < 16) (bk : bsy h k) (ek : w 59 (16 * p + i) = β k) (ev : w 58 (16 * p + i) = v) :
    (∀ e, 0 ≤ e → e < c + 1 → EN1q β e (st (st (st (st (st h 420 c v) 421 c 0) 424 c (28 + 2 * k)) 425 c p) 419 0 (c + 1)) (st (st (st (st w 102 c v) 106 c (w 59 (16 * p + i))) 107 c p) 17 128 (c + 1))) := by
  intro e a b
  by_cases ec : e = c
  · subst ec
    refine ⟨?_, ?_, ⟨k, ?_, ?_, ?_⟩, ⟨i, ?_, ?_, ?_⟩, ?_⟩
    all_goals (try simp only [st_ap, eq_self, and_true, true_and, and_self, false_and, and_false, ↓reduceIte, Int.reduceEq])
    · exact ⟨p0, hp⟩
    · exact bsy_t (h := h) (fun a j x y => by rw [st_na (by omega), st_na (by omega), st_na (by omega), st_na (by omega), st_na (by omega)]) bk
    · exact ek
    · exact i0
    · exact ev
  · refine EN1q_t (E0.2.2.2 e a (by omega)) (fun a j q => ?_) ⟨?_, ?_, ?_, ?_⟩ (fun a j q => ?_) ⟨?_, ?_, ?_⟩
    · rw [st_na (by omega), st_na (by omega), st_na (by omega), st_na (by omega), st_na (by omega)]
    · rw [st_na (by omega), st_na (by omega), st_na (by omega), st_na (by omega), st_nj ec]
    · rw [st_na (by omega), st_na (by omega), st_na (by omega), st_nj ec, st_na (by omega)]
    · rw [st_na (by omega), st_na (by omega), st_nj ec, st_na (by omega), st_na (by omega)]
    · rw [st_na (by omega), st_nj ec, st_na (by omega), st_na (by omega), st_na (by omega)]
    · rw [st_na (by omega), st_na (by omega), st_na (by omega), st_na (by omega)]
    · rw [st_na (by omega), st_na (by omega), st_na (by omega), st_nj ec]
    · rw [st_na (by omega), st_na (by omega), st_nj ec, st_na (by omega)]
    · rw [st_na (by omega), st_nj ec, st_na (by omega), st_na (by omega)]
section
variable {A B : Qt → Prop} {Φ : Out → Int → Mem → Out → Int → Mem → Prop} {KL KM : Qt → Qt} {n m : Int} {h w : Mem}
/-- addEntry (420) -/
theorem m_420 {p i c : Int} (p0 : 0 ≤ p ∧ p < 4) (i0 : 0 ≤ i ∧ i < 16) (e0 : w 17 128 = c) (c0 : 0 ≤ c ∧ c < 40) : Ev gM 420 [vR 33 17, vI p, vI i] m w (.inl none) m (st (st (st (st w 102 c (w 58 (16 * p + i))) 106 c (w 59 (16 * p + i))) 107 c p) 17 128 (c + 1)) := by
  intro Q hQ
  refine T_go (md := true) [some (vR 33 17), some (vI p), some (vI i)] [] 99 (by decide) rfl (Nat.le_of_ble_eq_true rfl) GM FM rfl k420 ?_
  simp -implicitDefEqProofs only [r_iconst, r_bipush, r_sipush, r_ldc, r_ldc_w, r_lconst, r_ldc2_w, r_aconst_null, r_iload, r_iload_n, r_lload, r_lload_n, r_aload, r_aload_n, r_istore, r_istore_n, r_lstore, r_lstore_n, r_astore, r_astore_n, r_iinc, r_iadd, r_iaddW, r_isub, r_isubW, r_imul, r_imulW, r_ladd, r_laddW, r_lsub, r_lsubW, r_lmul, r_lmulW, r_iand, r_ior, r_ishl, r_ishr, r_iushr, r_land, r_lor, r_lshl, r_lshr, r_lushr, r_idiv, r_irem, r_ldiv, r_lrem, r_lcmp, r_ineg, r_i2l, r_l2i, r_i2b, r_i2s, r_i2c, r_dup, r_pop, r_dup_x1, r_dup_x2, r_dup2, r_dup2L, r_icmp_eq, r_icmp_ne, r_icmp_lt, r_icmp_ge, r_icmp_gt, r_icmp_le, r_if_eq, r_if_ne, r_if_lt, r_if_ge, r_if_gt, r_if_le, r_acmp_eq, r_acmp_ne, r_ifnull, r_ifnonnull, r_goto, r_nop, r_tsw, r_lsw, r_getfield, r_getfinal, r_putfield, r_getstaticL, r_getstaticR, r_iaload, r_baload, r_saload, r_laload, r_aaload, r_aaloadM, r_iastore, r_bastore, r_zastore, r_sastore, r_lastore, r_aastore, r_alen, r_new, r_newarray, r_anewarray, r_invV, r_invI, r_objI, r_invS, r_acp, r_ireturn, r_zreturn, r_lreturn, r_return, r_areturn, r_athrow, ↓e_pI, ↓e_pL, ↓e_pR, ↓e_lg0, ↓e_lg1, ↓e_tk0, ↓e_tkI0, ↓e_tkI1, ↓e_tkI2, ↓e_tkI3, ↓e_tkI4, ↓e_tkL, ↓e_tkR0_0, ↓e_tkR0_1, ↓e_tkR1_0, ↓e_tkR1_1, ↓e_tkR2_0, ↓e_tkR2_1, ↓e_tkR3_0, ↓e_tkR3_1, ↓e_tkR4_0, ↓e_tkR4_1, ↓e_tkR5_0, ↓e_tkR5_1, ↓e_tkR6_0, ↓e_tkR6_1, ↓e_tkR7_0, ↓e_tkR7_1, ↓e_tkR8_0, ↓e_tkR8_1, ↓e_tkR9_0, ↓e_tkR9_1, ↓e_tkR10_0, ↓e_tkR10_1, ↓e_tkR11_0, ↓e_tkR11_1, ↓e_tkR12_0, ↓e_tkR12_1, ↓e_tkR13_0, ↓e_tkR13_1, ↓e_tkR14_0, ↓e_tkR14_1, ↓e_tkR15_0, ↓e_tkR15_1, ↓e_tkR16_0, ↓e_tkR16_1, ↓e_tkR17_0, ↓e_tkR17_1, ↓e_tkR39_0, ↓e_tkR39_1, ↓e_tkR40_0, ↓e_tkR40_1, ↓e_tkR41_0, ↓e_tkR41_1, ↓e_tkR42_0, ↓e_tkR42_1, ↓e_tkR43_0, ↓e_tkR43_1, ↓e_tkR44_0, ↓e_tkR44_1, ↓e_tkR45_0, ↓e_tkR45_1, ↓e_tkR46_0, ↓e_tkR46_1, ↓e_tkR47_0, ↓e_tkR47_1, ↓e_tkR48_0, ↓e_tkR48_1, ↓e_pv0, ↓e_pv1, ↓e_pv2, ↓e_pv3, ↓e_pv5, ↓e_pvR, ↓e_tsw0, ↓e_tsw1, ↓e_lsw0, ↓e_lsw1, e_kq100, e_kq0, e_kq3, e_kq5, e_kqR0, e_kqR1, e_kqR2, e_kqR3, e_kqR4, e_kqR5, e_kqR6, e_kqR7, e_kqR8, e_kqR9, e_kqR10, e_kqR11, e_kqR12, e_kqR13, e_kqR14, e_kqR15, e_kqR16, e_kqR17, e_kqR39, e_kqR40, e_kqR41, e_kqR42, e_kqR43, e_kqR44, e_kqR45, e_kqR46, e_kqR47, e_kqR48, e_st0I, e_st0R, e_st0L, e_st1N, e_st1I, e_st1L, e_st1R, e_st2, e_wd0, e_wdI, e_wdL, e_wdR, e_c1I, e_c1R, e_gv0, e_gv1, e_gv2, e_gv3, e_gv4, e_gv5, e_gvR0, e_gvR1, e_gvR2, e_gvR3, e_gvR4, e_gvR5, e_gvR6, e_gvR7, e_gvR8, e_gvR9, e_gvR10, e_gvR11, e_gvR12, e_gvR13, e_gvR14, e_gvR15, e_gvR16, e_gvR17, e_gvR39, e_gvR40, e_gvR41, e_gvR42, e_gvR43, e_gvR44, e_gvR45, e_gvR46, e_gvR47, e_gvR48, e_kX0, e_kX1, e_kVv, e_kVx, e_kIv, e_kIx, e_kLv, e_kLx, e_kRv, e_kRx, e_thr, e_lk1, e_ic0, e_ic1, e_jm, st_ap, clr_ap, e_lceq, e_lclt, e_lcgt, nn, ↓reduceIte, Nat.reduceDiv, Nat.reduceMod, Nat.reduceMul, Nat.reduceAdd, Nat.reduceEqDiff, Nat.reduceLeDiff, Int.reduceNatCast, Int.cast_ofNat_Int, Int.reduceSub, Int.reduceMul, Int.reduceNeg, Int.reduceAdd, Int.reduceLE, Int.reduceLT, Int.reduceEq, Int.reduceNe, true_and, and_true, true_or, and_self, ne_eq, not_false_eq_true, Bool.false_eq_true, reduceCtorEq, rd_l1, rd_l2, rd_l3, rd_l4, rd_l5, rd_l6, rd_l7, rd_l8, rd_l9, SB, rd_ge, i2b_2, false_and, and_false, not_true_eq_false, l420_0, s420_0, zM_18, zM_19, zM_20, zM_21, zM_22, zM_23, zM_24, zM_25, zM_26, zM_27, zM_28, zM_29, zM_30, zM_31, zM_32, zM_33, zM_34, zM_35, zM_36, zM_37, zM_38, zM_39, zM_40, zM_41, zM_42, zM_43, zM_44, zM_45, zM_46, zM_47, zM_48, zM_49, zM_50, zM_51, zM_52, zM_53, zM_54, zM_55, zM_56, zM_57, zM_58, zM_59, zM_60, zM_61, zM_62, zM_63, zM_64, zM_65, zM_66, zM_67, zM_68, zM_69, zM_70, zM_71, zM_72, zM_73, zM_74, zM_75, zM_76, zM_77, zM_78, zM_79, zM_80, zM_81, zM_82, zM_83, zM_84, zM_85, zM_86, zM_87, zM_88, zM_89, zM_90, zM_91, zM_92, zM_93, zM_94, zM_95, zM_96, zM_97, zM_98, zM_99, zM_100, zM_101, zM_102, zM_103, zM_104, zM_105, zM_106, zM_107, zM_108, zM_109, zM_110, zM_111, zM_112, zM_113, zM_114, zM_115, zM_116, zM_117, zM_118, zM_119]
  rw [e0]
  exact ⟨by unfold i32; omega, by unfold i32; omega, by omega, by omega, by omega, by omega, by unfold i32; omega, by unfold i32; omega, by omega, by omega, by omega, by omega, by omega, by omega, by unfold i32; omega, hQ⟩
end
