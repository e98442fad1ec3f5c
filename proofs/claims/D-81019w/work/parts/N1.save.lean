set_option maxRecDepth 100000
theorem inc_lt {f : Int → Int} {c : Int} (s : ∀ i, 0 < i → i < c → f (i - 1) < f i) : ∀ (d : Nat) (i : Int), 0 ≤ i → i + d + 1 < c → f i < f (i + d + 1) := by
  intro d
  induction d with
  | zero => intro i a b; have := s (i + 1) (by omega) (by omega); rw [show i + 1 - 1 = i by omega] at this; rw [show i + ((0 : Nat) : Int) + 1 = i + 1 by omega]; exact this
  | succ d ih =>
    intro i a b
    have h1 := ih i a (by omega)
    have h2 := s (i + ((d + 1 : Nat) : Int) + 1) (by omega) (by omega)
    rw [show i + ((d + 1 : Nat) : Int) + 1 - 1 = i + d + 1 by omega] at h2
    omega
theorem inc_l {f : Int → Int} {c i j : Int} (s : ∀ i, 0 < i → i < c → f (i - 1) < f i) (i0 : 0 ≤ i) (ij : i < j) (jc : j < c) : f i < f j := by
  have := inc_lt s (j - i - 1).toNat i i0 (by omega)
  rw [show i + ((j - i - 1).toNat : Int) + 1 = j by omega] at this
  exact this
/-- the tables of a font, as functions -/
def FFN (β : Int → Int) (p c : Int) (t k b z : Int → Int) (h w : Mem) : Prop := FTH p c t k z h ∧ h (252 + 6 * p) 1 = w 56 p ∧ w 57 p = c ∧ (∀ i, 0 ≤ i → i < c → (w 58 (16 * p + i) = t i ∧ w 59 (16 * p + i) = b i ∧ b i = β (k i)) ∧ bsy h (k i) ∧ (0 ≤ b i ∧ b i < 120) ∧ w 53 (b i) = z i ∧ (0 ≤ t i ∧ t i ≤ 4294967295) ∧ ∀ j, 0 ≤ j → j < z i → h (29 + 2 * k i) j = w 52 (12000 * b i + j) ∧ -128 ≤ h (29 + 2 * k i) j ∧ h (29 + 2 * k i) j ≤ 127) ∧ ∀ i j, 0 ≤ i → i < j → j < c → t i < t j ∧ b i ≠ b j
theorem ffn_ex {β : Int → Int} {p : Int} {h w : Mem} (R : RSB β h w) (p0 : 0 ≤ p ∧ p < 4) (hp : w 55 p = 1) : ∃ (k z : Int → Int), FFN β p (w 57 p) (fun i => w 58 (16 * p + i)) k (fun i => w 59 (16 * p + i)) z h w := by
  obtain ⟨K, Bd, FTs, R4, R5, R6, R7, R8, tg⟩ := R
  have F := FTs p p0.1 p0.2
  unfold FNT at F
  rw [FO_4 p0.2] at F
  obtain ⟨f1, f2, f3⟩ := F
  obtain ⟨⟨g1, g2, g3, g4⟩, gi⟩ := f3 hp
  have kk : ∀ i, 0 ≤ i → i < w 57 p → bsy h ((h (252 + 6 * p + 2) i - 28) / 2) ∧ h (252 + 6 * p + 2) i = 28 + 2 * ((h (252 + 6 * p + 2) i - 28) / 2) ∧ w 59 (16 * p + i) = β ((h (252 + 6 * p + 2) i - 28) / 2) := fun i a b => by
    obtain ⟨_, _, k, kD, ke, kb⟩ := gi i a b
    have : (h (252 + 6 * p + 2) i - 28) / 2 = k := by omega
    rw [this]
    exact ⟨kD, ke, kb⟩
  refine ⟨fun i => (h (252 + 6 * p + 2) i - 28) / 2, fun i => w 53 (w 59 (16 * p + i)), ⟨g2, ⟨g3, g4⟩, fun i a b => ?_⟩, g1, rfl, fun i a b => ?_, fun i j a b c => ?_⟩
  · obtain ⟨q1, q2, q3⟩ := kk i a b
    obtain ⟨b1, b2, b3, b4, b5⟩ := Bd.1 _ q1
    refine ⟨(gi i a b).1.1, q2, b1, ?_, ?_, ?_⟩
    · show _ = w 53 (w 59 (16 * p + i)); rw [q3, b4]
    · show 0 ≤ w 53 (w 59 (16 * p + i)); rw [q3, b4]; exact b3.1
    · show w 53 (w 59 (16 * p + i)) ≤ 12000; rw [q3, b4]; exact b3.2
  · obtain ⟨q1, q2, q3⟩ := kk i a b
    obtain ⟨b1, b2, b3, b4, b5⟩ := Bd.1 _ q1
    refine ⟨⟨rfl, rfl, q3⟩, q1, ?_, rfl, (gi i a b).1.2, fun j ja jb => ?_⟩
    · show 0 ≤ w 59 (16 * p + i) ∧ w 59 (16 * p + i) < 120; rw [q3]; exact b2
    · have jb : j < w 53 (w 59 (16 * p + i)) := jb
      rw [q3, b4] at jb
      have := b5 j ja jb
      show h (29 + 2 * ((h (252 + 6 * p + 2) i - 28) / 2)) j = w 52 (12000 * w 59 (16 * p + i) + j) ∧ _
      rw [q3]; exact this
  · have lt := inc_l (f := fun i => w 58 (16 * p + i)) (c := w 57 p) (fun i a b => by have := (gi i (by omega) b).2.1 a; rw [show 16 * p + (i - 1) = 16 * p + i - 1 by omega]; exact this) a b c
    refine ⟨lt, fun e => ?_⟩
    have := tg p p i j p0 p0 hp hp ⟨a, by omega, by omega⟩ ⟨by omega, c, by omega⟩ e
    have lt : w 58 (16 * p + i) < w 58 (16 * p + j) := lt
    omega
theorem wr_m (x : Int) : wr (x % 4294967296) = wr x := by rw [wr_eq, wr_eq]; omega
/-- sums of bodies are the same -/
theorem bs_eq {β : Int → Int} {p c : Int} {t k b z : Int → Int} {h w : Mem} (F : FFN β p c t k b z h w) {i : Int} (i0 : 0 ≤ i) (ic : i < c) : bsm w t b z i = bsh h t k z i := by
  unfold bsm bsh
  rw [wr_m]
  congr 1
  refine sm_cg (fun j j0 j1 => ?_)
  have := (F.2.2.2.1 i i0 ic).2.2.2.2.2 j j0 (by omega)
  show w 52 (12000 * b i + j) % 256 = h (29 + 2 * k i) (0 + j) % 256
  rw [show (0 : Int) + j = j by omega, this.1]
theorem f4_r (v : Int) : ∀ x ∈ f4 v, -128 ≤ x ∧ x ≤ 127 := by
  intro x hx
  unfold f4 at hx
  simp only [List.mem_cons, List.not_mem_nil, or_false] at hx
  rcases hx with e | e | e | e <;> rw [e] <;> exact i2b_r _
theorem f2_r (v : Int) : ∀ x ∈ f2 v, -128 ≤ x ∧ x ≤ 127 := by
  intro x hx
  unfold f2 at hx
  simp only [List.mem_cons, List.not_mem_nil, or_false] at hx
  rcases hx with e | e <;> rw [e] <;> exact i2b_r _
def byt (L : List Int) : Prop := ∀ x ∈ L, -128 ≤ x ∧ x ≤ 127
theorem byt_a {L M : List Int} (a : byt L) (b : byt M) : byt (L ++ M) := fun x hx => by
  rcases List.mem_append.1 hx with q | q
  · exact a x q
  · exact b x q
theorem byt_0 : byt [] := fun x hx => by simp at hx
theorem byt_z {k : Nat} : byt (List.replicate k 0) := fun x hx => by rw [List.eq_of_mem_replicate hx]; omega
theorem byt_s {g : Int → Int} {f : Int} : ∀ {k : Nat}, (∀ i : Nat, i < k → -128 ≤ g (f + i) ∧ g (f + i) ≤ 127) → byt (slc g f k) := by
  intro k
  induction k with
  | zero => intro _; exact byt_0
  | succ k ih =>
    intro q
    refine byt_a (ih (fun i hi => q i (by omega))) (fun x hx => ?_)
    simp only [List.mem_cons, List.not_mem_nil, or_false] at hx
    rw [hx]; exact q k (by omega)
theorem byt_g {L : List Int} (b : byt L) (i : Nat) : -128 ≤ L.getD i 0 ∧ L.getD i 0 ≤ 127 := by
  rw [List.getD_eq_getElem?_getD]
  rcases e : L[i]? with _ | x
  · show -128 ≤ (0 : Int) ∧ (0 : Int) ≤ 127; omega
  · exact b x (List.mem_of_getElem? e)
theorem byt_dE {t s l z : Int → Int} : ∀ k : Nat, byt (dirE t s l z k) := by
  intro k
  induction k with
  | zero => exact byt_0
  | succ k ih => exact byt_a ih (byt_a (byt_a (byt_a (f4_r _) (f4_r _)) (f4_r _)) (f4_r _))
theorem byt_dir {fl c : Int} {t s l z : Int → Int} : byt (dirL fl c t s l z) := byt_a (byt_a (byt_a (byt_a (byt_a (f4_r _) (f2_r _)) (f2_r _)) (f2_r _)) (f2_r _)) (byt_dE _)
theorem byt_bE {L : List Int} {g : Int → Int → Int} {z : Int → Int} (bL : byt L) : ∀ k : Nat, (∀ i : Int, 0 ≤ i → i < k → ∀ j, 0 ≤ j → j < z i → -128 ≤ g i j ∧ g i j ≤ 127) → byt (bodE L g z k) := by
  intro k
  induction k with
  | zero => intro _; exact bL
  | succ k ih =>
    intro q
    refine byt_a (byt_a (ih (fun i a b => q i a (by omega))) (byt_s (fun i hi => ?_))) byt_z
    exact q k (by omega) (by omega) _ (by omega) (by omega)
theorem out_r {LL : List Int} {hp i : Int} (b : byt LL) : -128 ≤ outL LL hp i ∧ outL LL hp i ≤ 127 := by
  unfold outL adj
  split
  · exact byt_g b _
  · split
    · exact i2b_r _
    · split
      · exact i2b_r _
      · split
        · exact i2b_r _
        · split
          · exact i2b_r _
          · exact byt_g b _
/-- a row gets new bytes (frame: the whole row) -/
theorem rr_new2 {h w h1 w1 : Mem} {x s : Int} (R : RR h w) (x0 : 0 ≤ x ∧ x < 4) (s0 : 0 ≤ s ∧ s ≤ 16000) (c : ∀ a j, (a = 23 ∨ (492 ≤ a ∧ a ≤ 499 ∧ a ≠ 492 + 2 * x ∧ a ≠ 492 + 2 * x + 1)) → h1 a j = h a j) (e1 : h1 (492 + 2 * x) 1 = s) (d1 : w1 19 x = s) (d : ∀ k, k ≠ x → w1 19 k = w 19 k) (d2 : ∀ j, ¬ (16000 * x ≤ j ∧ j < 16000 * x + 16000) → w1 18 j = w 18 j) (b : ∀ i, 0 ≤ i → i < s → w1 18 (16000 * x + i) = h1 (492 + 2 * x + 1) i ∧ -128 ≤ h1 (492 + 2 * x + 1) i ∧ h1 (492 + 2 * x + 1) i ≤ 127) : RR h1 w1 := by
  intro k k0 k1
  have r := R k k0 k1
  by_cases e : k = x
  · rw [e] at r ⊢
    refine ⟨by rw [c _ _ (Or.inl rfl)]; exact r.1, by omega, by omega, by rw [d1, e1], fun i i0 i1 => b i i0 (by omega)⟩
  · refine ⟨by rw [c _ _ (Or.inl rfl)]; exact r.1, ?_, ?_, ?_, fun i i0 i1 => ?_⟩
    · rw [c _ _ (Or.inr (by omega))]; exact r.2.1
    · rw [c _ _ (Or.inr (by omega))]; exact r.2.2.1
    · rw [c _ _ (Or.inr (by omega)), d k e]; exact r.2.2.2.1
    · rw [c _ _ (Or.inr (by omega))] at i1
      rw [c _ _ (Or.inr (by omega)), d2 _ (by omega)]
      exact r.2.2.2.2 i i0 i1
def saC (a _j : Int) : Prop := (18 ≤ a ∧ a ≤ 22) ∨ (492 ≤ a ∧ a < 500)
def saM (a j : Int) : Prop := a = 67 ∨ a = 68 ∨ (a = 17 ∧ j = 68) ∨ a = 18 ∨ a = 19
/-- post of save and saveAll -/
def PSa (n m : Int) (h w : Mem) : Out → Int → Mem → Out → Int → Mem → Prop := fun o n1 h1 o' m1 w1 => (∃ x, o = .inl (some (vI x)) ∧ o' = .inl (some (vI x))) ∧ n1 = n ∧ m1 = m ∧ RR h1 w1 ∧ Fz saC h h1 ∧ Fz saM w w1
section
variable {A B : Qt → Prop} {Φ : Out → Int → Mem → Out → Int → Mem → Prop} {KL KM : Qt → Qt} {n m : Int} {h w : Mem}
theorem c_give {r : Int} (r0 : 0 ≤ r ∧ r < 4) (e23 : h 23 r = 492 + 2 * r) (s0 : 0 ≤ h 19 1 ∧ h 19 1 ≤ 16000) (ov : h 19 2 = 0) : ∃ h1 : Mem, Ev gC 64 [vR 1 17, vI r] n h (.inl (some (vI (h 19 1)))) n h1 ∧ h1 (492 + 2 * r) 1 = h 19 1 ∧ (∀ i, 0 ≤ i → i < h 19 1 → h1 (492 + 2 * r + 1) i = h 20 i) ∧ Fz (fun a _ => a = 492 + 2 * r ∨ a = 492 + 2 * r + 1) h h1 := by
  have zc := zc19
  have zr := zrow (r := r) (by omega) (by omega)
  obtain ⟨h1, ev, c1, c2, c3, F⟩ := c_becm (o := 492 + 2 * r) (p := 19) (n := n) (h := h) (by omega) (by omega) (by omega) (by omega) (by omega) (by omega) (by omega)
  refine ⟨h1, ?_, c1, c3, Fz_mo F (fun a j g => by omega)⟩
  intro Q hQ
  refine T_go (md := true) [some (vR 1 17), some (vI r)] [] 99 (by decide) rfl (Nat.le_of_ble_eq_true rfl) GC FC rfl k64 ?_
  simp -implicitDefEqProofs only [r_iconst, r_bipush, r_sipush, r_ldc, r_ldc_w, r_lconst, r_ldc2_w, r_aconst_null, r_iload, r_iload_n, r_lload, r_lload_n, r_aload, r_aload_n, r_istore, r_istore_n, r_lstore, r_lstore_n, r_astore, r_astore_n, r_iinc, r_iadd, r_iaddW, r_isub, r_isubW, r_imul, r_imulW, r_ladd, r_laddW, r_lsub, r_lsubW, r_lmul, r_lmulW, r_iand, r_ior, r_ishl, r_ishr, r_iushr, r_land, r_lor, r_lshl, r_lshr, r_lushr, r_idiv, r_irem, r_ldiv, r_lrem, r_lcmp, r_ineg, r_i2l, r_l2i, r_i2b, r_i2s, r_i2c, r_dup, r_pop, r_dup_x1, r_dup_x2, r_dup2, r_dup2L, r_icmp_eq, r_icmp_ne, r_icmp_lt, r_icmp_ge, r_icmp_gt, r_icmp_le, r_if_eq, r_if_ne, r_if_lt, r_if_ge, r_if_gt, r_if_le, r_acmp_eq, r_acmp_ne, r_ifnull, r_ifnonnull, r_goto, r_nop, r_tsw, r_lsw, r_getfield, r_getfinal, r_putfield, r_getstaticL, r_getstaticR, r_iaload, r_baload, r_saload, r_laload, r_aaload, r_aaloadM, r_iastore, r_bastore, r_zastore, r_sastore, r_lastore, r_aastore, r_alen, r_new, r_newarray, r_anewarray, r_invV, r_invI, r_objI, r_invS, r_acp, r_ireturn, r_zreturn, r_lreturn, r_return, r_areturn, r_athrow, ↓e_pI, ↓e_pL, ↓e_pR, ↓e_lg0, ↓e_lg1, ↓e_tk0, ↓e_tkI0, ↓e_tkI1, ↓e_tkI2, ↓e_tkI3, ↓e_tkI4, ↓e_tkL, ↓e_tkR0_0, ↓e_tkR0_1, ↓e_tkR1_0, ↓e_tkR1_1, ↓e_tkR2_0, ↓e_tkR2_1, ↓e_tkR3_0, ↓e_tkR3_1, ↓e_tkR4_0, ↓e_tkR4_1, ↓e_tkR5_0, ↓e_tkR5_1, ↓e_tkR6_0, ↓e_tkR6_1, ↓e_tkR7_0, ↓e_tkR7_1, ↓e_tkR8_0, ↓e_tkR8_1, ↓e_tkR9_0, ↓e_tkR9_1, ↓e_tkR10_0, ↓e_tkR10_1, ↓e_tkR11_0, ↓e_tkR11_1, ↓e_tkR12_0, ↓e_tkR12_1, ↓e_tkR13_0, ↓e_tkR13_1, ↓e_tkR14_0, ↓e_tkR14_1, ↓e_tkR15_0, ↓e_tkR15_1, ↓e_tkR16_0, ↓e_tkR16_1, ↓e_tkR17_0, ↓e_tkR17_1, ↓e_tkR39_0, ↓e_tkR39_1, ↓e_tkR40_0, ↓e_tkR40_1, ↓e_tkR41_0, ↓e_tkR41_1, ↓e_tkR42_0, ↓e_tkR42_1, ↓e_tkR43_0, ↓e_tkR43_1, ↓e_tkR44_0, ↓e_tkR44_1, ↓e_tkR45_0, ↓e_tkR45_1, ↓e_tkR46_0, ↓e_tkR46_1, ↓e_tkR47_0, ↓e_tkR47_1, ↓e_tkR48_0, ↓e_tkR48_1, ↓e_pv0, ↓e_pv1, ↓e_pv2, ↓e_pv3, ↓e_pv5, ↓e_pvR, ↓e_tsw0, ↓e_tsw1, ↓e_lsw0, ↓e_lsw1, e_kq100, e_kq0, e_kq3, e_kq5, e_kqR0, e_kqR1, e_kqR2, e_kqR3, e_kqR4, e_kqR5, e_kqR6, e_kqR7, e_kqR8, e_kqR9, e_kqR10, e_kqR11, e_kqR12, e_kqR13, e_kqR14, e_kqR15, e_kqR16, e_kqR17, e_kqR39, e_kqR40, e_kqR41, e_kqR42, e_kqR43, e_kqR44, e_kqR45, e_kqR46, e_kqR47, e_kqR48, e_st0I, e_st0R, e_st0L, e_st1N, e_st1I, e_st1L, e_st1R, e_st2, e_wd0, e_wdI, e_wdL, e_wdR, e_c1I, e_c1R, e_gv0, e_gv1, e_gv2, e_gv3, e_gv4, e_gv5, e_gvR0, e_gvR1, e_gvR2, e_gvR3, e_gvR4, e_gvR5, e_gvR6, e_gvR7, e_gvR8, e_gvR9, e_gvR10, e_gvR11, e_gvR12, e_gvR13, e_gvR14, e_gvR15, e_gvR16, e_gvR17, e_gvR39, e_gvR40, e_gvR41, e_gvR42, e_gvR43, e_gvR44, e_gvR45, e_gvR46, e_gvR47, e_gvR48, e_kX0, e_kX1, e_kVv, e_kVx, e_kIv, e_kIx, e_kLv, e_kLx, e_kRv, e_kRx, e_thr, e_lk1, e_ic0, e_ic1, e_jm, st_ap, clr_ap, e_lceq, e_lclt, e_lcgt, nn, ↓reduceIte, Nat.reduceDiv, Nat.reduceMod, Nat.reduceMul, Nat.reduceAdd, Nat.reduceEqDiff, Nat.reduceLeDiff, Int.reduceNatCast, Int.cast_ofNat_Int, Int.reduceSub, Int.reduceMul, Int.reduceNeg, Int.reduceAdd, Int.reduceLE, Int.reduceLT, Int.reduceEq, Int.reduceNe, true_and, and_true, true_or, and_self, ne_eq, not_false_eq_true, Bool.false_eq_true, reduceCtorEq, rd_l1, rd_l2, rd_l3, rd_l4, rd_l5, rd_l6, rd_l7, rd_l8, rd_l9, SB, rd_ge, i2b_2, false_and, and_false, not_true_eq_false, l64_0, l64_13, s64_0, s64_13, zC_18, zC_20, zC_21, zC_22, zC_23, zC_25, zC_26, zC_253, zC_254, zC_256, zC_257, zC_259, zC_260, zC_262, zC_263, zC_265, zC_266, zC_268, zC_269, zC_271, zC_272, zC_274, zC_275, zC_278, zC_279, zC_280, zC_281, zC_282, zC_284, zC_285, zC_287, zC_288, zC_290, zC_291, zC_293, zC_294, zC_296, zC_297, zC_299, zC_300, zC_302, zC_303, zC_304, zC_305, zC_306, zC_307, zC_308, zC_309, zC_310, zC_311, zC_312, zC_315, zC_316, zC_317, zC_319, zC_320, zC_321, zC_323, zC_324, zC_325, zC_327, zC_328, zC_329, zC_331, zC_332, zC_333, zC_335, zC_336, zC_337, zC_339, zC_340, zC_341, zC_343, zC_344, zC_345, zC_347, zC_348, zC_349, zC_350, zC_351, zC_352, zC_353, zC_354, zC_355, zC_356, zC_357, zC_358, zC_359, zC_361, zC_362, zC_363, zC_364, zC_367, zC_368, zC_369, zC_370, zC_371, zC_372, zC_373, zC_374, zC_375, zC_376, zC_378, zC_380, zC_381, zC_383, zC_384, zC_386, zC_387, zC_389, zC_390, zC_391, zC_392, zC_393, zC_394, zC_395, zC_396, zC_397, zC_398, zC_400, zC_402, zC_403, zC_405, zC_407, zC_409, zC_411, zC_413, zC_415, zC_417, zC_420, zC_421, zC_422, zC_423, zC_424, zC_425, zC_427, zC_429, zC_431, zC_433, zC_436, zC_437, zC_438, zC_439, zC_440, zC_441, zC_442, zC_443, zC_444, zC_445, zC_447, zC_448, zC_450, zC_451, zC_453, zC_454, zC_455, zC_456, zC_457, zC_458, zC_460, zC_461, zC_462, zC_463, zC_464, zC_465, zC_466, zC_467, zC_468, zC_469, zC_471, zC_473, zC_474, zC_476, zC_477, zC_478, zC_479, zC_480, zC_481, zC_482, zC_483, zC_484, zC_485, zC_487, zC_489, zC_490, zC_491, zC_493, zC_495, zC_497, zC_499]
  refine iteP ov ⟨by omega, by omega, by omega, ?_⟩
  rw [e23]
  refine E_V ev ?_
  rw [F 19 1 (by omega)]
  exact hQ
theorem c_give0 {r : Int} (ov : h 19 2 = 1) : Ev gC 64 [vR 1 17, vI r] n h (.inl (some (vI (-4)))) n h := by
  intro Q hQ
  refine T_go (md := true) [some (vR 1 17), some (vI r)] [] 99 (by decide) rfl (Nat.le_of_ble_eq_true rfl) GC FC rfl k64 ?_
  simp -implicitDefEqProofs only [r_iconst, r_bipush, r_sipush, r_ldc, r_ldc_w, r_lconst, r_ldc2_w, r_aconst_null, r_iload, r_iload_n, r_lload, r_lload_n, r_aload, r_aload_n, r_istore, r_istore_n, r_lstore, r_lstore_n, r_astore, r_astore_n, r_iinc, r_iadd, r_iaddW, r_isub, r_isubW, r_imul, r_imulW, r_ladd, r_laddW, r_lsub, r_lsubW, r_lmul, r_lmulW, r_iand, r_ior, r_ishl, r_ishr, r_iushr, r_land, r_lor, r_lshl, r_lshr, r_lushr, r_idiv, r_irem, r_ldiv, r_lrem, r_lcmp, r_ineg, r_i2l, r_l2i, r_i2b, r_i2s, r_i2c, r_dup, r_pop, r_dup_x1, r_dup_x2, r_dup2, r_dup2L, r_icmp_eq, r_icmp_ne, r_icmp_lt, r_icmp_ge, r_icmp_gt, r_icmp_le, r_if_eq, r_if_ne, r_if_lt, r_if_ge, r_if_gt, r_if_le, r_acmp_eq, r_acmp_ne, r_ifnull, r_ifnonnull, r_goto, r_nop, r_tsw, r_lsw, r_getfield, r_getfinal, r_putfield, r_getstaticL, r_getstaticR, r_iaload, r_baload, r_saload, r_laload, r_aaload, r_aaloadM, r_iastore, r_bastore, r_zastore, r_sastore, r_lastore, r_aastore, r_alen, r_new, r_newarray, r_anewarray, r_invV, r_invI, r_objI, r_invS, r_acp, r_ireturn, r_zreturn, r_lreturn, r_return, r_areturn, r_athrow, ↓e_pI, ↓e_pL, ↓e_pR, ↓e_lg0, ↓e_lg1, ↓e_tk0, ↓e_tkI0, ↓e_tkI1, ↓e_tkI2, ↓e_tkI3, ↓e_tkI4, ↓e_tkL, ↓e_tkR0_0, ↓e_tkR0_1, ↓e_tkR1_0, ↓e_tkR1_1, ↓e_tkR2_0, ↓e_tkR2_1, ↓e_tkR3_0, ↓e_tkR3_1, ↓e_tkR4_0, ↓e_tkR4_1, ↓e_tkR5_0, ↓e_tkR5_1, ↓e_tkR6_0, ↓e_tkR6_1, ↓e_tkR7_0, ↓e_tkR7_1, ↓e_tkR8_0, ↓e_tkR8_1, ↓e_tkR9_0, ↓e_tkR9_1, ↓e_tkR10_0, ↓e_tkR10_1, ↓e_tkR11_0, ↓e_tkR11_1, ↓e_tkR12_0, ↓e_tkR12_1, ↓e_tkR13_0, ↓e_tkR13_1, ↓e_tkR14_0, ↓e_tkR14_1, ↓e_tkR15_0, ↓e_tkR15_1, ↓e_tkR16_0, ↓e_tkR16_1, ↓e_tkR17_0, ↓e_tkR17_1, ↓e_tkR39_0, ↓e_tkR39_1, ↓e_tkR40_0, ↓e_tkR40_1, ↓e_tkR41_0, ↓e_tkR41_1, ↓e_tkR42_0, ↓e_tkR42_1, ↓e_tkR43_0, ↓e_tkR43_1, ↓e_tkR44_0, ↓e_tkR44_1, ↓e_tkR45_0, ↓e_tkR45_1, ↓e_tkR46_0, ↓e_tkR46_1, ↓e_tkR47_0, ↓e_tkR47_1, ↓e_tkR48_0, ↓e_tkR48_1, ↓e_pv0, ↓e_pv1, ↓e_pv2, ↓e_pv3, ↓e_pv5, ↓e_pvR, ↓e_tsw0, ↓e_tsw1, ↓e_lsw0, ↓e_lsw1, e_kq100, e_kq0, e_kq3, e_kq5, e_kqR0, e_kqR1, e_kqR2, e_kqR3, e_kqR4, e_kqR5, e_kqR6, e_kqR7, e_kqR8, e_kqR9, e_kqR10, e_kqR11, e_kqR12, e_kqR13, e_kqR14, e_kqR15, e_kqR16, e_kqR17, e_kqR39, e_kqR40, e_kqR41, e_kqR42, e_kqR43, e_kqR44, e_kqR45, e_kqR46, e_kqR47, e_kqR48, e_st0I, e_st0R, e_st0L, e_st1N, e_st1I, e_st1L, e_st1R, e_st2, e_wd0, e_wdI, e_wdL, e_wdR, e_c1I, e_c1R, e_gv0, e_gv1, e_gv2, e_gv3, e_gv4, e_gv5, e_gvR0, e_gvR1, e_gvR2, e_gvR3, e_gvR4, e_gvR5, e_gvR6, e_gvR7, e_gvR8, e_gvR9, e_gvR10, e_gvR11, e_gvR12, e_gvR13, e_gvR14, e_gvR15, e_gvR16, e_gvR17, e_gvR39, e_gvR40, e_gvR41, e_gvR42, e_gvR43, e_gvR44, e_gvR45, e_gvR46, e_gvR47, e_gvR48, e_kX0, e_kX1, e_kVv, e_kVx, e_kIv, e_kIx, e_kLv, e_kLx, e_kRv, e_kRx, e_thr, e_lk1, e_ic0, e_ic1, e_jm, st_ap, clr_ap, e_lceq, e_lclt, e_lcgt, nn, ↓reduceIte, Nat.reduceDiv, Nat.reduceMod, Nat.reduceMul, Nat.reduceAdd, Nat.reduceEqDiff, Nat.reduceLeDiff, Int.reduceNatCast, Int.cast_ofNat_Int, Int.reduceSub, Int.reduceMul, Int.reduceNeg, Int.reduceAdd, Int.reduceLE, Int.reduceLT, Int.reduceEq, Int.reduceNe, true_and, and_true, true_or, and_self, ne_eq, not_false_eq_true, Bool.false_eq_true, reduceCtorEq, rd_l1, rd_l2, rd_l3, rd_l4, rd_l5, rd_l6, rd_l7, rd_l8, rd_l9, SB, rd_ge, i2b_2, false_and, and_false, not_true_eq_false, l64_0, l64_13, s64_0, s64_13, zC_18, zC_20, zC_21, zC_22, zC_23, zC_25, zC_26, zC_253, zC_254, zC_256, zC_257, zC_259, zC_260, zC_262, zC_263, zC_265, zC_266, zC_268, zC_269, zC_271, zC_272, zC_274, zC_275, zC_278, zC_279, zC_280, zC_281, zC_282, zC_284, zC_285, zC_287, zC_288, zC_290, zC_291, zC_293, zC_294, zC_296, zC_297, zC_299, zC_300, zC_302, zC_303, zC_304, zC_305, zC_306, zC_307, zC_308, zC_309, zC_310, zC_311, zC_312, zC_315, zC_316, zC_317, zC_319, zC_320, zC_321, zC_323, zC_324, zC_325, zC_327, zC_328, zC_329, zC_331, zC_332, zC_333, zC_335, zC_336, zC_337, zC_339, zC_340, zC_341, zC_343, zC_344, zC_345, zC_347, zC_348, zC_349, zC_350, zC_351, zC_352, zC_353, zC_354, zC_355, zC_356, zC_357, zC_358, zC_359, zC_361, zC_362, zC_363, zC_364, zC_367, zC_368, zC_369, zC_370, zC_371, zC_372, zC_373, zC_374, zC_375, zC_376, zC_378, zC_380, zC_381, zC_383, zC_384, zC_386, zC_387, zC_389, zC_390, zC_391, zC_392, zC_393, zC_394, zC_395, zC_396, zC_397, zC_398, zC_400, zC_402, zC_403, zC_405, zC_407, zC_409, zC_411, zC_413, zC_415, zC_417, zC_420, zC_421, zC_422, zC_423, zC_424, zC_425, zC_427, zC_429, zC_431, zC_433, zC_436, zC_437, zC_438, zC_439, zC_440, zC_441, zC_442, zC_443, zC_444, zC_445, zC_447, zC_448, zC_450, zC_451, zC_453, zC_454, zC_455, zC_456, zC_457, zC_458, zC_460, zC_461, zC_462, zC_463, zC_464, zC_465, zC_466, zC_467, zC_468, zC_469, zC_471, zC_473, zC_474, zC_476, zC_477, zC_478, zC_479, zC_480, zC_481, zC_482, zC_483, zC_484, zC_485, zC_487, zC_489, zC_490, zC_491, zC_493, zC_495, zC_497, zC_499]
  exact iteN (by omega) hQ
/-- SAVE -/
theorem p_save {p r : Int} (R : RST h w) (RW : RR h w) : J2 (fun Q => T gC 58 [vR 1 17, vI p, vI r] n h Q) (fun Q => T gM 337 [vR 33 17, vI p, vI r] m w Q) (PSa n m h w) := by
  refine J_impL (fun Q hq => T_go (md := true) [some (vR 1 17), some (vI p), some (vI r)] [] 99 (by decide) rfl (Nat.le_of_ble_eq_true rfl) GC FC rfl k58 hq) ?_
  refine J_impR (fun Q hq => T_go (md := true) [some (vR 33 17), some (vI p), some (vI r), none, none, none, none, none] [59, 165] 99 (by decide) rfl (Nat.le_of_ble_eq_true rfl) GM FM rfl k337 hq) ?_
  simp -implicitDefEqProofs only [r_iconst, r_bipush, r_sipush, r_ldc, r_ldc_w, r_lconst, r_ldc2_w, r_aconst_null, r_iload, r_iload_n, r_lload, r_lload_n, r_aload, r_aload_n, r_istore, r_istore_n, r_lstore, r_lstore_n, r_astore, r_astore_n, r_iinc, r_iadd, r_iaddW, r_isub, r_isubW, r_imul, r_imulW, r_ladd, r_laddW, r_lsub, r_lsubW, r_lmul, r_lmulW, r_iand, r_ior, r_ishl, r_ishr, r_iushr, r_land, r_lor, r_lshl, r_lshr, r_lushr, r_idiv, r_irem, r_ldiv, r_lrem, r_lcmp, r_ineg, r_i2l, r_l2i, r_i2b, r_i2s, r_i2c, r_dup, r_pop, r_dup_x1, r_dup_x2, r_dup2, r_dup2L, r_icmp_eq, r_icmp_ne, r_icmp_lt, r_icmp_ge, r_icmp_gt, r_icmp_le, r_if_eq, r_if_ne, r_if_lt, r_if_ge, r_if_gt, r_if_le, r_acmp_eq, r_acmp_ne, r_ifnull, r_ifnonnull, r_goto, r_nop, r_tsw, r_lsw, r_getfield, r_getfinal, r_putfield, r_getstaticL, r_getstaticR, r_iaload, r_baload, r_saload, r_laload, r_aaload, r_aaloadM, r_iastore, r_bastore, r_zastore, r_sastore, r_lastore, r_aastore, r_alen, r_new, r_newarray, r_anewarray, r_invV, r_invI, r_objI, r_invS, r_acp, r_ireturn, r_zreturn, r_lreturn, r_return, r_areturn, r_athrow, ↓e_pI, ↓e_pL, ↓e_pR, ↓e_lg0, ↓e_lg1, ↓e_tk0, ↓e_tkI0, ↓e_tkI1, ↓e_tkI2, ↓e_tkI3, ↓e_tkI4, ↓e_tkL, ↓e_tkR0_0, ↓e_tkR0_1, ↓e_tkR1_0, ↓e_tkR1_1, ↓e_tkR2_0, ↓e_tkR2_1, ↓e_tkR3_0, ↓e_tkR3_1, ↓e_tkR4_0, ↓e_tkR4_1, ↓e_tkR5_0, ↓e_tkR5_1, ↓e_tkR6_0, ↓e_tkR6_1, ↓e_tkR7_0, ↓e_tkR7_1, ↓e_tkR8_0, ↓e_tkR8_1, ↓e_tkR9_0, ↓e_tkR9_1, ↓e_tkR10_0, ↓e_tkR10_1, ↓e_tkR11_0, ↓e_tkR11_1, ↓e_tkR12_0, ↓e_tkR12_1, ↓e_tkR13_0, ↓e_tkR13_1, ↓e_tkR14_0, ↓e_tkR14_1, ↓e_tkR15_0, ↓e_tkR15_1, ↓e_tkR16_0, ↓e_tkR16_1, ↓e_tkR17_0, ↓e_tkR17_1, ↓e_tkR39_0, ↓e_tkR39_1, ↓e_tkR40_0, ↓e_tkR40_1, ↓e_tkR41_0, ↓e_tkR41_1, ↓e_tkR42_0, ↓e_tkR42_1, ↓e_tkR43_0, ↓e_tkR43_1, ↓e_tkR44_0, ↓e_tkR44_1, ↓e_tkR45_0, ↓e_tkR45_1, ↓e_tkR46_0, ↓e_tkR46_1, ↓e_tkR47_0, ↓e_tkR47_1, ↓e_tkR48_0, ↓e_tkR48_1, ↓e_pv0, ↓e_pv1, ↓e_pv2, ↓e_pv3, ↓e_pv5, ↓e_pvR, ↓e_tsw0, ↓e_tsw1, ↓e_lsw0, ↓e_lsw1, e_kq100, e_kq0, e_kq3, e_kq5, e_kqR0, e_kqR1, e_kqR2, e_kqR3, e_kqR4, e_kqR5, e_kqR6, e_kqR7, e_kqR8, e_kqR9, e_kqR10, e_kqR11, e_kqR12, e_kqR13, e_kqR14, e_kqR15, e_kqR16, e_kqR17, e_kqR39, e_kqR40, e_kqR41, e_kqR42, e_kqR43, e_kqR44, e_kqR45, e_kqR46, e_kqR47, e_kqR48, e_st0I, e_st0R, e_st0L, e_st1N, e_st1I, e_st1L, e_st1R, e_st2, e_wd0, e_wdI, e_wdL, e_wdR, e_c1I, e_c1R, e_gv0, e_gv1, e_gv2, e_gv3, e_gv4, e_gv5, e_gvR0, e_gvR1, e_gvR2, e_gvR3, e_gvR4, e_gvR5, e_gvR6, e_gvR7, e_gvR8, e_gvR9, e_gvR10, e_gvR11, e_gvR12, e_gvR13, e_gvR14, e_gvR15, e_gvR16, e_gvR17, e_gvR39, e_gvR40, e_gvR41, e_gvR42, e_gvR43, e_gvR44, e_gvR45, e_gvR46, e_gvR47, e_gvR48, e_kX0, e_kX1, e_kVv, e_kVx, e_kIv, e_kIx, e_kLv, e_kLx, e_kRv, e_kRx, e_thr, e_lk1, e_ic0, e_ic1, e_jm, st_ap, clr_ap, e_lceq, e_lclt, e_lcgt, nn, ↓reduceIte, Nat.reduceDiv, Nat.reduceMod, Nat.reduceMul, Nat.reduceAdd, Nat.reduceEqDiff, Nat.reduceLeDiff, Int.reduceNatCast, Int.cast_ofNat_Int, Int.reduceSub, Int.reduceMul, Int.reduceNeg, Int.reduceAdd, Int.reduceLE, Int.reduceLT, Int.reduceEq, Int.reduceNe, true_and, and_true, true_or, and_self, ne_eq, not_false_eq_true, Bool.false_eq_true, reduceCtorEq, rd_l1, rd_l2, rd_l3, rd_l4, rd_l5, rd_l6, rd_l7, rd_l8, rd_l9, SB, rd_ge, i2b_2, false_and, and_false, not_true_eq_false, l58_0, l58_14, l58_16, l58_39, l58_42, s58_0, s58_14, s58_16, s58_39, s58_42, l337_0, l337_14, l337_16, l337_27, l337_47, l337_59, l337_90, l337_114, l337_118, l337_127, l337_165, l337_206, s337_0, s337_14, s337_16, s337_27, s337_47, s337_59, s337_90, s337_114, s337_118, s337_127, s337_165, s337_206, zC_18, zC_20, zC_21, zC_22, zC_23, zC_25, zC_26, zC_253, zC_254, zC_256, zC_257, zC_259, zC_260, zC_262, zC_263, zC_265, zC_266, zC_268, zC_269, zC_271, zC_272, zC_274, zC_275, zC_278, zC_279, zC_280, zC_281, zC_282, zC_284, zC_285, zC_287, zC_288, zC_290, zC_291, zC_293, zC_294, zC_296, zC_297, zC_299, zC_300, zC_302, zC_303, zC_304, zC_305, zC_306, zC_307, zC_308, zC_309, zC_310, zC_311, zC_312, zC_315, zC_316, zC_317, zC_319, zC_320, zC_321, zC_323, zC_324, zC_325, zC_327, zC_328, zC_329, zC_331, zC_332, zC_333, zC_335, zC_336, zC_337, zC_339, zC_340, zC_341, zC_343, zC_344, zC_345, zC_347, zC_348, zC_349, zC_350, zC_351, zC_352, zC_353, zC_354, zC_355, zC_356, zC_357, zC_358, zC_359, zC_361, zC_362, zC_363, zC_364, zC_367, zC_368, zC_369, zC_370, zC_371, zC_372, zC_373, zC_374, zC_375, zC_376, zC_378, zC_380, zC_381, zC_383, zC_384, zC_386, zC_387, zC_389, zC_390, zC_391, zC_392, zC_393, zC_394, zC_395, zC_396, zC_397, zC_398, zC_400, zC_402, zC_403, zC_405, zC_407, zC_409, zC_411, zC_413, zC_415, zC_417, zC_420, zC_421, zC_422, zC_423, zC_424, zC_425, zC_427, zC_429, zC_431, zC_433, zC_436, zC_437, zC_438, zC_439, zC_440, zC_441, zC_442, zC_443, zC_444, zC_445, zC_447, zC_448, zC_450, zC_451, zC_453, zC_454, zC_455, zC_456, zC_457, zC_458, zC_460, zC_461, zC_462, zC_463, zC_464, zC_465, zC_466, zC_467, zC_468, zC_469, zC_471, zC_473, zC_474, zC_476, zC_477, zC_478, zC_479, zC_480, zC_481, zC_482, zC_483, zC_484, zC_485, zC_487, zC_489, zC_490, zC_491, zC_493, zC_495, zC_497, zC_499, zM_18, zM_19, zM_20, zM_21, zM_22, zM_23, zM_24, zM_25, zM_26, zM_27, zM_28, zM_29, zM_30, zM_31, zM_32, zM_33, zM_34, zM_35, zM_36, zM_37, zM_38, zM_39, zM_40, zM_41, zM_42, zM_43, zM_44, zM_45, zM_46, zM_47, zM_48, zM_49, zM_50, zM_51, zM_52, zM_53, zM_54, zM_55, zM_56, zM_57, zM_58, zM_59, zM_60, zM_61, zM_62, zM_63, zM_64, zM_65, zM_66, zM_67, zM_68, zM_69, zM_70, zM_71, zM_72, zM_73, zM_74, zM_75, zM_76, zM_77, zM_78, zM_79, zM_80, zM_81, zM_82, zM_83, zM_84, zM_85, zM_86, zM_87, zM_88, zM_89, zM_90, zM_91, zM_92, zM_93, zM_94, zM_95, zM_96, zM_97, zM_98, zM_99, zM_100, zM_101, zM_102, zM_103, zM_104, zM_105, zM_106, zM_107, zM_108, zM_109, zM_110, zM_111, zM_112, zM_113, zM_114, zM_115, zM_116, zM_117, zM_118, zM_119]
  refine J_LI (c_isPlace _) (J_RI (m_isPlace _) ?_)
  by_cases gp : 0 ≤ p ∧ p ≤ 3
  · rw [bz_t gp]
    repeat (first | refine J_andL (by first | omega | (constructor <;> omega)) ?_ | refine J_andR (by first | omega | (constructor <;> omega)) ?_ | refine J_posL (by first | omega | (constructor <;> omega)) ?_ | refine J_negL (by first | omega | (constructor <;> omega)) ?_ | refine J_posR (by first | omega | (constructor <;> omega)) ?_ | refine J_negR (by first | omega | (constructor <;> omega)) ?_)
    refine J_LI (c_isRow _) (J_RI (m_isRow _) ?_)
    by_cases gr : 0 ≤ r ∧ r ≤ 3
    · rw [bz_t gr]
      repeat (first | refine J_andL (by first | omega | (constructor <;> omega)) ?_ | refine J_andR (by first | omega | (constructor <;> omega)) ?_ | refine J_posL (by first | omega | (constructor <;> omega)) ?_ | refine J_negL (by first | omega | (constructor <;> omega)) ?_ | refine J_posR (by first | omega | (constructor <;> omega)) ?_ | refine J_negR (by first | omega | (constructor <;> omega)) ?_)
      refine J_LI (c_isFont R gp) ?_
      obtain ⟨a1, a2, a3, a4⟩ := rs_n R gp
      refine J_impR (fun Q hq => T_go (md := true) [some (vR 33 17), some (vI p)] [] 99 (by decide) rfl (Nat.le_of_ble_eq_true rfl) GM FM rfl k338 hq) ?_
      simp -implicitDefEqProofs only [r_iconst, r_bipush, r_sipush, r_ldc, r_ldc_w, r_lconst, r_ldc2_w, r_aconst_null, r_iload, r_iload_n, r_lload, r_lload_n, r_aload, r_aload_n, r_istore, r_istore_n, r_lstore, r_lstore_n, r_astore, r_astore_n, r_iinc, r_iadd, r_iaddW, r_isub, r_isubW, r_imul, r_imulW, r_ladd, r_laddW, r_lsub, r_lsubW, r_lmul, r_lmulW, r_iand, r_ior, r_ishl, r_ishr, r_iushr, r_land, r_lor, r_lshl, r_lshr, r_lushr, r_idiv, r_irem, r_ldiv, r_lrem, r_lcmp, r_ineg, r_i2l, r_l2i, r_i2b, r_i2s, r_i2c, r_dup, r_pop, r_dup_x1, r_dup_x2, r_dup2, r_dup2L, r_icmp_eq, r_icmp_ne, r_icmp_lt, r_icmp_ge, r_icmp_gt, r_icmp_le, r_if_eq, r_if_ne, r_if_lt, r_if_ge, r_if_gt, r_if_le, r_acmp_eq, r_acmp_ne, r_ifnull, r_ifnonnull, r_goto, r_nop, r_tsw, r_lsw, r_getfield, r_getfinal, r_putfield, r_getstaticL, r_getstaticR, r_iaload, r_baload, r_saload, r_laload, r_aaload, r_aaloadM, r_iastore, r_bastore, r_zastore, r_sastore, r_lastore, r_aastore, r_alen, r_new, r_newarray, r_anewarray, r_invV, r_invI, r_objI, r_invS, r_acp, r_ireturn, r_zreturn, r_lreturn, r_return, r_areturn, r_athrow, ↓e_pI, ↓e_pL, ↓e_pR, ↓e_lg0, ↓e_lg1, ↓e_tk0, ↓e_tkI0, ↓e_tkI1, ↓e_tkI2, ↓e_tkI3, ↓e_tkI4, ↓e_tkL, ↓e_tkR0_0, ↓e_tkR0_1, ↓e_tkR1_0, ↓e_tkR1_1, ↓e_tkR2_0, ↓e_tkR2_1, ↓e_tkR3_0, ↓e_tkR3_1, ↓e_tkR4_0, ↓e_tkR4_1, ↓e_tkR5_0, ↓e_tkR5_1, ↓e_tkR6_0, ↓e_tkR6_1, ↓e_tkR7_0, ↓e_tkR7_1, ↓e_tkR8_0, ↓e_tkR8_1, ↓e_tkR9_0, ↓e_tkR9_1, ↓e_tkR10_0, ↓e_tkR10_1, ↓e_tkR11_0, ↓e_tkR11_1, ↓e_tkR12_0, ↓e_tkR12_1, ↓e_tkR13_0, ↓e_tkR13_1, ↓e_tkR14_0, ↓e_tkR14_1, ↓e_tkR15_0, ↓e_tkR15_1, ↓e_tkR16_0, ↓e_tkR16_1, ↓e_tkR17_0, ↓e_tkR17_1, ↓e_tkR39_0, ↓e_tkR39_1, ↓e_tkR40_0, ↓e_tkR40_1, ↓e_tkR41_0, ↓e_tkR41_1, ↓e_tkR42_0, ↓e_tkR42_1, ↓e_tkR43_0, ↓e_tkR43_1, ↓e_tkR44_0, ↓e_tkR44_1, ↓e_tkR45_0, ↓e_tkR45_1, ↓e_tkR46_0, ↓e_tkR46_1, ↓e_tkR47_0, ↓e_tkR47_1, ↓e_tkR48_0, ↓e_tkR48_1, ↓e_pv0, ↓e_pv1, ↓e_pv2, ↓e_pv3, ↓e_pv5, ↓e_pvR, ↓e_tsw0, ↓e_tsw1, ↓e_lsw0, ↓e_lsw1, e_kq100, e_kq0, e_kq3, e_kq5, e_kqR0, e_kqR1, e_kqR2, e_kqR3, e_kqR4, e_kqR5, e_kqR6, e_kqR7, e_kqR8, e_kqR9, e_kqR10, e_kqR11, e_kqR12, e_kqR13, e_kqR14, e_kqR15, e_kqR16, e_kqR17, e_kqR39, e_kqR40, e_kqR41, e_kqR42, e_kqR43, e_kqR44, e_kqR45, e_kqR46, e_kqR47, e_kqR48, e_st0I, e_st0R, e_st0L, e_st1N, e_st1I, e_st1L, e_st1R, e_st2, e_wd0, e_wdI, e_wdL, e_wdR, e_c1I, e_c1R, e_gv0, e_gv1, e_gv2, e_gv3, e_gv4, e_gv5, e_gvR0, e_gvR1, e_gvR2, e_gvR3, e_gvR4, e_gvR5, e_gvR6, e_gvR7, e_gvR8, e_gvR9, e_gvR10, e_gvR11, e_gvR12, e_gvR13, e_gvR14, e_gvR15, e_gvR16, e_gvR17, e_gvR39, e_gvR40, e_gvR41, e_gvR42, e_gvR43, e_gvR44, e_gvR45, e_gvR46, e_gvR47, e_gvR48, e_kX0, e_kX1, e_kVv, e_kVx, e_kIv, e_kIx, e_kLv, e_kLx, e_kRv, e_kRx, e_thr, e_lk1, e_ic0, e_ic1, e_jm, st_ap, clr_ap, e_lceq, e_lclt, e_lcgt, nn, ↓reduceIte, Nat.reduceDiv, Nat.reduceMod, Nat.reduceMul, Nat.reduceAdd, Nat.reduceEqDiff, Nat.reduceLeDiff, Int.reduceNatCast, Int.cast_ofNat_Int, Int.reduceSub, Int.reduceMul, Int.reduceNeg, Int.reduceAdd, Int.reduceLE, Int.reduceLT, Int.reduceEq, Int.reduceNe, true_and, and_true, true_or, and_self, ne_eq, not_false_eq_true, Bool.false_eq_true, reduceCtorEq, rd_l1, rd_l2, rd_l3, rd_l4, rd_l5, rd_l6, rd_l7, rd_l8, rd_l9, SB, rd_ge, i2b_2, false_and, and_false, not_true_eq_false, l338_0, l338_22, l338_23, s338_0, s338_22, s338_23, zM_18, zM_19, zM_20, zM_21, zM_22, zM_23, zM_24, zM_25, zM_26, zM_27, zM_28, zM_29, zM_30, zM_31, zM_32, zM_33, zM_34, zM_35, zM_36, zM_37, zM_38, zM_39, zM_40, zM_41, zM_42, zM_43, zM_44, zM_45, zM_46, zM_47, zM_48, zM_49, zM_50, zM_51, zM_52, zM_53, zM_54, zM_55, zM_56, zM_57, zM_58, zM_59, zM_60, zM_61, zM_62, zM_63, zM_64, zM_65, zM_66, zM_67, zM_68, zM_69, zM_70, zM_71, zM_72, zM_73, zM_74, zM_75, zM_76, zM_77, zM_78, zM_79, zM_80, zM_81, zM_82, zM_83, zM_84, zM_85, zM_86, zM_87, zM_88, zM_89, zM_90, zM_91, zM_92, zM_93, zM_94, zM_95, zM_96, zM_97, zM_98, zM_99, zM_100, zM_101, zM_102, zM_103, zM_104, zM_105, zM_106, zM_107, zM_108, zM_109, zM_110, zM_111, zM_112, zM_113, zM_114, zM_115, zM_116, zM_117, zM_118, zM_119]
      repeat (first | refine J_andL (by first | omega | (constructor <;> omega)) ?_ | refine J_andR (by first | omega | (constructor <;> omega)) ?_ | refine J_posL (by first | omega | (constructor <;> omega)) ?_ | refine J_negL (by first | omega | (constructor <;> omega)) ?_ | refine J_posR (by first | omega | (constructor <;> omega)) ?_ | refine J_negR (by first | omega | (constructor <;> omega)) ?_)
      by_cases hp : w 55 p = 1
      · obtain ⟨b1, b2, b3, b4⟩ := a4 hp
        obtain ⟨β, RB⟩ := id R
        obtain ⟨k, z, FF⟩ := ffn_ex RB (by omega) hp
        rw [a1, b2]
        repeat (first | refine J_andL (by first | omega | (constructor <;> omega)) ?_ | refine J_andR (by first | omega | (constructor <;> omega)) ?_ | refine J_posL (by first | omega | (constructor <;> omega)) ?_ | refine J_negL (by first | omega | (constructor <;> omega)) ?_ | refine J_posR (by first | omega | (constructor <;> omega)) ?_ | refine J_negR (by first | omega | (constructor <;> omega)) ?_)
        by_cases hc : w 57 p = 0
        · repeat (first | refine J_andL (by first | omega | (constructor <;> omega)) ?_ | refine J_andR (by first | omega | (constructor <;> omega)) ?_ | refine J_posL (by first | omega | (constructor <;> omega)) ?_ | refine J_negL (by first | omega | (constructor <;> omega)) ?_ | refine J_posR (by first | omega | (constructor <;> omega)) ?_ | refine J_negR (by first | omega | (constructor <;> omega)) ?_)
          exact J_end ⟨⟨_, rfl, rfl⟩, rfl, rfl, RW, Fz_0, Fz_0⟩
        · repeat (first | refine J_andL (by first | omega | (constructor <;> omega)) ?_ | refine J_andR (by first | omega | (constructor <;> omega)) ?_ | refine J_posL (by first | omega | (constructor <;> omega)) ?_ | refine J_negL (by first | omega | (constructor <;> omega)) ?_ | refine J_posR (by first | omega | (constructor <;> omega)) ?_ | refine J_negR (by first | omega | (constructor <;> omega)) ?_)
          generalize ec : w 57 p = c at *
          generalize et : (fun i => w 58 (16 * p + i)) = t at FF
          generalize eb : (fun i => w 59 (16 * p + i)) = b at FF
          obtain ⟨FH, fl, fc, ff, fi⟩ := id FF
          refine c_s60 (by omega) FH fl ?_
          intro h1 S1 F1
          try simp only [e_kVv]
          have c0 := FH.2.1
          refine m_meas1 (x5 := 0) (t := t) (b := b) (z := z) (by omega) ⟨fc, c0⟩ (fun i a b => by have := ff i a b; omega) ?_
          intro x7 x8
          refine m_meas2 (b := b) (z := z) (by omega) ⟨fc, c0⟩ (fun i a b => by have := ff i a b; have := (FH.2.2 i a b).2.2.2.2; omega) (fun i j a b c => (fi i j a b c).2) ?_
          intro w1 e68 G1
          have zz : ∀ i, 0 ≤ i → i < c → 0 ≤ z i ∧ z i ≤ 12000 := fun i a b => (FH.2.2 i a b).2.2.2.2
          have len := bodE_p (g := fun i => h (29 + 2 * k i)) (z := z) (c := c) (dirL_l (fl := w 56 p) (c := c) (t := t) (s := bsh h t k z) (l := fun i => plc z c i.toNat) (z := z) c0.1) c.toNat (fun i a b => (zz i a (by omega)).1)
          have hr := hpl_r (t := t) (z := z) (c := c) c0.1 c.toNat (fun i a b => (zz i a (by omega)).1)
          have bL : byt (bodE (dirL (w 56 p) c t (bsh h t k z) (fun i => plc z c i.toNat) z) (fun i => h (29 + 2 * k i)) z c.toNat) := byt_bE byt_dir _ (fun i a b j ja jb => (ff i a (by omega)).2.2.2.2.2 j ja jb |>.2)
          simp only [e_kIv]
          by_cases big : 16000 < plc z c c.toNat
          · refine J_posR big ?_
            rcases S1 with ⟨s1, _⟩ | ⟨s1, s2⟩
            · omega
            · refine J_LI (c_give0 s2) ?_
              refine J_end ⟨⟨_, rfl, rfl⟩, rfl, rfl, ?_, Fz_mo F1 (fun a j g => by unfold saC; omega), Fz_mo G1 (fun a j g => by have g : a = 68 := g; unfold saM; omega)⟩
              intro x x0 x1
              have := RW x x0 x1
              rw [F1 23 _ (by omega), F1 (492 + 2 * x) _ (by omega), G1 19 _ (by show ¬ ((19 : Int) = 68); omega)]
              refine ⟨this.1, this.2.1, this.2.2.1, this.2.2.2.1, fun i i0 i1 => ?_⟩
              rw [F1 (492 + 2 * x + 1) _ (by omega), G1 18 _ (by show ¬ ((18 : Int) = 68); omega)]
              exact this.2.2.2.2 i i0 i1
          · refine J_negR big ?_
            have G2 : Fz (fun a j => a = 68 ∨ (a = 17 ∧ j = 68)) w (st w1 17 68 0) := Fz_st (Fz_mo G1 (fun a j g => Or.inl g)) (Or.inr ⟨rfl, rfl⟩)
            have O0 : OM (st w1 17 68 0) [] := ⟨st_eq _ _ _ _, fun i hi => by simp at hi⟩
            have e68' : ∀ i, 0 ≤ i → i < c → (st w1 17 68 0) 68 (b i) = plc z c i.toNat := fun i x y => by rw [st_na (by omega)]; exact e68 i x y
            revert G2 O0 e68'
            generalize st w1 17 68 0 = w2
            intro G2 O0 e68'
            have FM2 : FTM p c t b z (fun i => plc z c i.toNat) w2 := by
              refine ⟨by rw [G2 _ _ (by omega)]; exact fc, c0, fun i x y => ?_⟩
              have := ff i x y
              rw [G2 58 _ (by omega), G2 59 _ (by omega), G2 53 _ (by omega)]
              exact ⟨this.1.1, this.1.2.1, this.2.2.1, this.2.2.2.1, zz i x y, e68' i x y⟩
            refine m_dir (fl := w 56 p) (L := []) (by omega) FM2 (by rw [G2 _ _ (by omega)]) O0 (by simp) ?_
            intro w3 O3 G3
            try simp only [e_kVv]
            have eD : dirL (w 56 p) c t (bsm w2 t b z) (fun i => plc z c i.toNat) z = dirL (w 56 p) c t (bsh h t k z) (fun i => plc z c i.toNat) z := dirL_c (fun i x y => ⟨by
              rw [← bs_eq FF x y]
              unfold bsm
              have : (fun j => w2 52 (12000 * b i + j)) = fun j => w 52 (12000 * b i + j) := funext fun j => G2 _ _ (by omega)
              rw [this], rfl⟩)
            rw [eD, List.nil_append] at O3
            have FM3 : FTM p c t b z (fun i => plc z c i.toNat) w3 := FTM_t FM2 (fun a j x y q => G3 _ _ (by unfold omM; omega))
            have e52 : ∀ j, w3 52 j = w 52 j := fun j => by rw [G3 _ _ (by unfold omM; omega), G2 _ _ (by omega)]
            have eB : ∀ q : Nat, (q : Int) ≤ c → bodE (dirL (w 56 p) c t (bsh h t k z) (fun i => plc z c i.toNat) z) (fun i j => w3 52 (12000 * b i + j)) z q = bodE (dirL (w 56 p) c t (bsh h t k z) (fun i => plc z c i.toNat) z) (fun i => h (29 + 2 * k i)) z q := fun q qc => bodE_c q (fun i x y j ja jb => by
              have := (ff i x (by omega)).2.2.2.2.2 j ja jb
              show w3 52 (12000 * b i + j) = h (29 + 2 * k i) j
              rw [e52, this.1])
            have dl := dirL_l (fl := w 56 p) (c := c) (t := t) (s := bsh h t k z) (l := fun i => plc z c i.toNat) (z := z) c0.1
            refine m_bod (by omega) FM3 (fun i x y j ja jb => by have := (ff i x y).2.2.2.2.2 j ja jb; rw [e52, ← this.1]; exact this.2) O3 (fun i ic => by
              rw [eB i ic, bodE_p (g := fun i => h (29 + 2 * k i)) (z := z) (c := c) dl i (fun i a b => (zz i a (by omega)).1)]
              have := plc_m (z := z) (c := c) (c.toNat - i) i (fun j a b => (zz j a (by omega)).1)
              rw [show i + (c.toNat - i) = c.toNat by omega] at this
              omega) ?_
            intro w4 O4 G4
            rw [eB c.toNat (by omega)] at O4
            have FM4 : FTM p c t b z (fun i => plc z c i.toNat) w4 := FTM_t FM3 (fun a j x y q => G4 _ _ (by unfold omM; omega))
            have t58 : ∀ i, 0 ≤ i → i < c → w4 58 (16 * p + i) = t i := fun i x y => (FM4.2.2 i x y).1
            obtain ⟨rr, fd⟩ := fds_ex (fun i => w4 58 (16 * p + i)) 1751474532 c0.1
            revert S1 O4 len bL
            generalize bodE (dirL (w 56 p) c t (bsh h t k z) (fun i => plc z c i.toNat) z) (fun i => h (29 + 2 * k i)) z c.toNat = LL
            intro S1 len bL O4
            rcases S1 with ⟨s1, s2, s3, s4⟩ | ⟨s1, s2⟩
            · refine m_end (hp := hpl t z c c.toNat) (rr := rr) (by omega) (by omega) FM4 O4 s1 (fun i _ => byt_g bL i) fd (fun q => ?_) (fun q => ?_) (fun q => ?_) (fun q => by omega) ?_
              · rcases fd with ⟨_, f2⟩ | ⟨f2, _⟩
                · exact hpl_n _ (fun i x y => by rw [← t58 i x (by omega)]; exact f2 i x (by omega))
                · omega
              · rcases fd with ⟨f1, _⟩ | ⟨f1, f2, f3, f4⟩
                · omega
                · refine hpl_u q (by rw [← t58 rr q f2]; exact f3) _ (by omega) (fun i x y ne e => ?_)
                  have e3 : t rr = 1751474532 := by rw [← t58 rr q f2]; exact f3
                  rcases Int.lt_or_gt_of_ne ne with g | g
                  · have := (fi i rr x g f2).1; omega
                  · have := (fi rr i q g (by omega)).1; omega
              · have hc : rr < c := by rcases fd with ⟨f1, _⟩ | ⟨f1, f2, _⟩ <;> omega
                have := plc_r (z := z) (c := c) c0 rr.toNat (by omega) (fun i x y => zz i x (by omega))
                show 0 ≤ plc z c rr.toNat ∧ plc z c rr.toNat ≤ 200000
                omega
              · intro w5 d1 d2 G5
                have r23 : h1 23 r = 492 + 2 * r := by rw [F1 _ _ (by omega)]; exact (RW r (by omega) (by omega)).1
                obtain ⟨h2, ev2, g1, g2, F2⟩ := c_give (n := n) (h := h1) (r := r) (by omega) r23 (by omega) s2
                refine J_LI ev2 ?_
                rw [s3]
                have Fa : Fz saC h h2 := fun a j g => by
                  have g' : ¬ ((18 ≤ a ∧ a ≤ 22) ∨ (492 ≤ a ∧ a < 500)) := g
                  rw [F2 _ _ (by omega), F1 _ _ (by omega)]
                have Ga : Fz (fun a j => a = 67 ∨ a = 68 ∨ (a = 17 ∧ j = 68)) w w4 := fun a j g => by
                  have g' : ¬ (a = 67 ∨ a = 68 ∨ (a = 17 ∧ j = 68)) := g
                  rw [G4 _ _ (by unfold omM; omega), G3 _ _ (by unfold omM; omega), G2 _ _ (by omega)]
                have Gb : Fz saM w w5 := fun a j g => by
                  have g' : ¬ (a = 67 ∨ a = 68 ∨ (a = 17 ∧ j = 68) ∨ a = 18 ∨ a = 19) := g
                  rw [G5 _ _ (by unfold rwM; omega), Ga _ _ (by omega)]
                refine J_end ⟨⟨_, rfl, rfl⟩, rfl, rfl, ?_, Fa, Gb⟩
                refine rr_new2 (x := r) (s := LL.length) RW (by omega) (by omega) (fun a j g => ?_) (by rw [g1, s3]) d1 (fun q ne => ?_) (fun j g => ?_) (fun i x y => ?_)
                · rw [F2 _ _ (by omega), F1 _ _ (by omega)]
                · rw [G5 _ _ (by unfold rwM; omega), Ga _ _ (by omega)]
                · rw [G5 _ _ (by unfold rwM; omega), Ga _ _ (by omega)]
                · rw [d2 i x y, g2 i x (by omega), s4 i x y]
                  exact ⟨rfl, out_r bL⟩
            · omega
      · repeat (first | refine J_andL (by first | omega | (constructor <;> omega)) ?_ | refine J_andR (by first | omega | (constructor <;> omega)) ?_ | refine J_posL (by first | omega | (constructor <;> omega)) ?_ | refine J_negL (by first | omega | (constructor <;> omega)) ?_ | refine J_posR (by first | omega | (constructor <;> omega)) ?_ | refine J_negR (by first | omega | (constructor <;> omega)) ?_)
        exact J_end ⟨⟨_, rfl, rfl⟩, rfl, rfl, RW, Fz_0, Fz_0⟩
    · rw [bz_f gr]
      repeat (first | refine J_andL (by first | omega | (constructor <;> omega)) ?_ | refine J_andR (by first | omega | (constructor <;> omega)) ?_ | refine J_posL (by first | omega | (constructor <;> omega)) ?_ | refine J_negL (by first | omega | (constructor <;> omega)) ?_ | refine J_posR (by first | omega | (constructor <;> omega)) ?_ | refine J_negR (by first | omega | (constructor <;> omega)) ?_)
      exact J_end ⟨⟨_, rfl, rfl⟩, rfl, rfl, RW, Fz_0, Fz_0⟩
  · rw [bz_f gp]
    repeat (first | refine J_andL (by first | omega | (constructor <;> omega)) ?_ | refine J_andR (by first | omega | (constructor <;> omega)) ?_ | refine J_posL (by first | omega | (constructor <;> omega)) ?_ | refine J_negL (by first | omega | (constructor <;> omega)) ?_ | refine J_posR (by first | omega | (constructor <;> omega)) ?_ | refine J_negR (by first | omega | (constructor <;> omega)) ?_)
    exact J_end ⟨⟨_, rfl, rfl⟩, rfl, rfl, RW, Fz_0, Fz_0⟩
end
