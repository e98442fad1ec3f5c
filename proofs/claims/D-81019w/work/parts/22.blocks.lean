set_option maxRecDepth 100000
theorem i32_rem {a b : Int} (h : i32 a) : i32 (a.tmod b) := by
  have e := Int.natAbs_tmod a b
  have l := Nat.mod_le a.natAbs b.natAbs
  unfold i32 at h ⊢
  rcases Int.le_total 0 a with q | q
  · have := Int.tmod_nonneg b q; omega
  · have e2 := Int.neg_tmod (a := a) (b := b); have := Int.tmod_nonneg b (show 0 ≤ -a by omega); omega
theorem i64_rem {a b : Int} (h : i64 a) : i64 (a.tmod b) := by
  have e := Int.natAbs_tmod a b
  have l := Nat.mod_le a.natAbs b.natAbs
  unfold i64 at h ⊢
  rcases Int.le_total 0 a with q | q
  · have := Int.tmod_nonneg b q; omega
  · have e2 := Int.neg_tmod (a := a) (b := b); have := Int.tmod_nonneg b (show 0 ≤ -a by omega); omega
theorem lkf {k o idx c j : Nat} (ho : (mY k).cls = ow o) (h : (o, idx, c, j) ∈ FT ∨ (o, idx, c, j) ∈ FN) : LkF (mY k).cls idx c j := by
  unfold LkF
  rw [ho]
  rcases h with h | h
  · exact Or.inl (FT_ok _ h _ List.mem_cons_self)
  · exact Or.inr ⟨_, FN_ok _ h _ List.mem_cons_self⟩
theorem lkg {k o idx z : Nat} (ho : (mY k).cls = ow o) (h : (o, idx, z) ∈ GT ∨ (o, idx, z) ∈ GN) : (Cond.fieldLink (mY k).cls idx (stz z).1 (stz z).2.1 (stz z).2.2.1) ∈ lw_mv ∨ ∃ host, (Cond.fieldLinkNest (mY k).cls idx (stz z).1 (stz z).2.1 (stz z).2.2.1 host) ∈ lw_mv := by
  rw [ho]
  rcases h with h | h
  · exact Or.inl (GT_ok _ h _ List.mem_cons_self)
  · exact Or.inr ⟨_, GN_ok _ h _ List.mem_cons_self⟩
theorem stz_mem {z : Nat} {v : V} (hz : z < 17) (hv : (stz z).2.2.2 = v) : ((stz z).1, (stz z).2.1, (stz z).2.2.1, v) ∈ stTab := by
  subst hv
  show stz z ∈ stTab
  unfold stz
  rw [List.getD_eq_getElem?_getD, List.getElem?_eq_getElem (show z < stTab.length from hz)]
  exact List.getElem_mem _
theorem lkl {k o idx k' : Nat} (ho : (mY k).cls = ow o) (h : (o, idx, k') ∈ MT ∨ (o, idx, k') ∈ MN) : (Cond.methodLink (mY k).cls idx (mY k')) ∈ lw_mv ∨ ∃ host, (Cond.methodLinkNest (mY k).cls idx (mY k') host) ∈ lw_mv := by
  rw [ho]
  rcases h with h | h
  · exact Or.inl (MT_ok _ h _ List.mem_cons_self)
  · exact Or.inr ⟨_, MN_ok _ h _ List.mem_cons_self⟩
theorem yok_ok {k na : Nat} (h : yok k na = true) : ((mY k).cls ≠ "java/lang/invoke/MethodHandle" ∧ (mY k).cls ≠ "java/lang/invoke/VarHandle") ∧ (parseMethodDescriptor (mY k).desc).map (fun d => d.parameters.length) = some na := by
  unfold yok at h
  simp only [Bool.and_eq_true, decide_eq_true_eq] at h
  exact ⟨h.1, h.2⟩
theorem lkv {k o idx k' c : Nat} {ts : List Nat} {as0 : List V} (ho : (mY k).cls = ow o) (h1 : (k', c, ts.length) ∈ VK) (h2 : (o, idx, k') ∈ MT ∨ (o, idx, k') ∈ MN) (e1 : as0.length = ts.length) : LkV (mY k).cls idx k' as0.length c := by
  have hv := VK_ok _ h1
  have hy := yok_ok (VK_y _ h1)
  rw [e1]
  exact ⟨⟨lkl ho h2, hv _ List.mem_cons_self, hv _ (List.mem_cons_of_mem _ List.mem_cons_self), hy.1, hy.2⟩, hv _ (List.mem_cons_of_mem _ (List.mem_cons_of_mem _ List.mem_cons_self)), hv _ (List.mem_cons_of_mem _ (List.mem_cons_of_mem _ (List.mem_cons_of_mem _ List.mem_cons_self)))⟩
theorem lks {k o idx k' : Nat} {ts : List Nat} {as0 : List V} (ho : (mY k).cls = ow o) (h1 : (k', ts.length) ∈ SK) (h2 : (o, idx, k') ∈ MT ∨ (o, idx, k') ∈ MN) (e1 : as0.length = ts.length) : LkS (mY k).cls idx k' as0.length := by
  have hv := SK_ok _ h1
  have hy := yok_ok (SK_y _ h1)
  rw [e1]
  exact ⟨⟨lkl ho h2, hv _ List.mem_cons_self, hv _ (List.mem_cons_of_mem _ List.mem_cons_self), hy.1, hy.2⟩, hv _ (List.mem_cons_of_mem _ (List.mem_cons_of_mem _ List.mem_cons_self))⟩
theorem lki {k o idx k' c : Nat} {ts : List Nat} {as0 : List V} (ho : (mY k).cls = ow o) (h1 : (k', c, ts.length) ∈ IK) (h2 : (o, idx, k') ∈ MT ∨ (o, idx, k') ∈ MN) (e1 : as0.length = ts.length) : LkI (mY k).cls idx k' as0.length := by
  have hv := IK_ok _ h1
  have hI := IK_y _ h1
  have hy := yok_ok hI.1
  rw [e1]
  exact ⟨⟨lkl ho h2, hv _ List.mem_cons_self, hv _ (List.mem_cons_of_mem _ List.mem_cons_self), hy.1, hy.2⟩, hv _ (List.mem_cons_of_mem _ (List.mem_cons_of_mem _ List.mem_cons_self)), hI.2.1, hI.2.2.1, hI.2.2.2⟩
theorem fin_all {c : Nat} (h : (finT.getD c []).all (fun q => q.isNone) = true) (j : Nat) : fin c j = none := by
  unfold fin
  generalize finT.getD c [] = L at h ⊢
  rw [List.getD_eq_getElem?_getD]
  rcases hj : L[j]? with _ | q
  · rfl
  · have := List.all_eq_true.mp h q (List.mem_of_getElem? hj)
    simpa using this
theorem fin_arr {c : Nat} (h : 18 ≤ c) (j : Nat) : fin c j = none := by
  refine fin_all ?_ j
  have : finT.getD c [] = [] := by
    rw [List.getD_eq_getElem?_getD, List.getElem?_eq_none (show finT.length ≤ c from h)]; rfl
  rw [this]; rfl
theorem acl (at0 : ArrayType) (h : atc at0 ≠ 0) : (Cond.arrayClass (newarray.typeOf at0)) ∈ lw_mv := by
  cases at0 with
  | int => exact lwm (lw_at lw_m1 75 rfl) rfl
  | byte => exact lwm (lw_at lw_m1 76 rfl) rfl
  | long => exact lwm (lw_at lw_m1 123 rfl) rfl
  | boolean => exact lwm (lw_at lw_m3 63 rfl) rfl
  | short => exact lwm (lw_at lw_m12 140 rfl) rfl
  | _ => exact absurd rfl h
theorem aov {ak : Nat} (h1 : 45 ≤ ak) (h2 : ak < 48) : (Cond.arrayOver (.object (clR (akc ak)))) ∈ lw_mv := by
  have : ak = 45 ∨ ak = 46 ∨ ak = 47 := by omega
  rcases this with rfl | rfl | rfl
  · exact lwm (lw_at lw_m1 77 rfl) rfl
  · exact lwm (lw_at lw_m1 86 rfl) rfl
  · exact lwm (lw_at lw_m2 69 rfl) rfl
section
variable {g : G} {k o pc : Nat} {md : Bool} {Q : Qt} {J : Nat → Kt} {K : Kt}
/-- a value that is known: its tag may say that it isn't null -/
theorem T_tag1 {pc' t : Nat} {ls : Lcs} {r : List V} {n : Int} {h : Mem} {y z : Int} (ht : 6 ≤ t) (he : y = z) (hz : y = 0 → False) (kk : T_at g k pc' ls (vR (2 * (t - 6) + 1) z :: r) n h Q) : T_at g k pc' ls (gv t y :: r) n h Q := by
  subst he
  have e : gv t y = vR (2 * (t - 6)) y := by unfold gv; rw [if_neg (by omega), if_neg (by omega)]
  rw [e]
  intro p l e R s m args below meth c D dA A γ0 n0 γ H locs cells slots la hB hL hwl hws
  refine kk p l e R s m args below meth c D dA A γ0 n0 γ H locs cells slots la hB hL hwl ?_
  intro v hv
  rcases List.mem_cons.mp hv with q | q
  · subst q
    rcases hws _ List.mem_cons_self with q | q
    · exact absurd q.1 hz
    · refine Or.inr ?_
      have e1 : (2 * (t - 6) + 1) / 2 = 2 * (t - 6) / 2 := by omega
      rw [e1]; exact q
  · exact hws v (List.mem_cons_of_mem _ q)
theorem tsw_out {F : Nat → Prop} {a : Int} : ∀ {ts : List Nat} {lo : Int} {dt : Nat}, tsw F a lo ts dt → (a < lo ∨ lo + (ts.length : Int) - 1 < a) → F dt
  | [], _, _, h, _ => h
  | t :: ts, lo, dt, h, hc => by
    simp only [tsw] at h
    simp only [List.length_cons] at hc
    rw [if_neg (by omega)] at h
    exact tsw_out h (by omega)
theorem tsw_in {F : Nat → Prop} {a : Int} : ∀ {ts : List Nat} {lo : Int} {dt : Nat}, tsw F a lo ts dt → lo ≤ a → a ≤ lo + (ts.length : Int) - 1 → ∃ t, ts[(a - lo).toNat]? = some t ∧ F t
  | [], lo, _, h, h1, h2 => by simp at h2; omega
  | t :: ts, lo, dt, h, h1, h2 => by
    simp only [tsw] at h
    simp only [List.length_cons] at h2
    by_cases q : a = lo
    · rw [if_pos q] at h; subst q; exact ⟨t, by simp, h⟩
    · rw [if_neg q] at h
      obtain ⟨t', e1, e2⟩ := tsw_in h (by omega) (by omega)
      refine ⟨t', ?_, e2⟩
      have : (a - lo).toNat = (a - (lo + 1)).toNat + 1 := by omega
      rw [this]; simpa using e1
theorem tsw_ok {df lo hi : Int} {offs : Array Int} {l dt : Nat} {ts : List Nat} {ls : Lcs} {r : List V} {n : Int} {h : Mem} {a : Int} (hd : decode (mC k) pc = .ok (.tableswitch df lo hi offs, l)) (h1 : (pc : Int) + df = (dt : Int)) (h2 : hi = lo + (ts.length : Int) - 1) (h3 : offs.toList.map (fun q => (pc : Int) + q) = ts.map (fun t : Nat => (t : Int)))
    (hJ : ∀ t, J t ls r n h → T_at g k t ls r n h Q) (h4 : tsw (fun t => J t ls r n h) a lo ts dt) : T_at g k pc ls (vI a :: r) n h Q := by
  by_cases q : a < lo ∨ hi < a
  · exact T_tableOut hd q h1 (hJ _ (tsw_out h4 (by rw [← h2]; exact q)))
  · have q1 : ¬ a < lo := fun z => q (Or.inl z)
    have q2 : ¬ hi < a := fun z => q (Or.inr z)
    obtain ⟨t, e1, e2⟩ := tsw_in h4 (by omega) (by omega)
    have e3 : (ts.map (fun t : Nat => (t : Int)))[(a - lo).toNat]? = some (t : Int) := by simp [e1]
    rw [← h3] at e3
    simp only [List.getElem?_map, Option.map_eq_some_iff] at e3
    obtain ⟨off, e4, e5⟩ := e3
    exact T_tableIn hd q1 q2 (by rw [← Array.getElem?_toList]; exact e4) e5 (hJ _ e2)
theorem lsw_at {F : Nat → Prop} {a df : Int} {dt : Nat} (h1 : (pc : Int) + df = (dt : Int)) : ∀ {ps : List (Int × Int)} {ts : List Nat}, ps.map (fun q => (pc : Int) + q.2) = ts.map (fun t : Nat => (t : Int)) → lsw F a ps ts dt → ∃ t : Nat, (pc : Int) + Op.lookupswitch.offset ps df a = (t : Int) ∧ F t
  | [], [], _, h => ⟨dt, h1, h⟩
  | (b, c) :: ps, t :: ts, hm, h => by
    simp only [List.map_cons, List.cons.injEq] at hm
    simp only [lsw] at h
    rw [Op.lookupswitch.offset_cons]
    by_cases q : a = b
    · rw [if_pos q] at h; rw [if_pos q.symm]; exact ⟨t, hm.1, h⟩
    · rw [if_neg q] at h; rw [if_neg (fun z => q z.symm)]; exact lsw_at h1 hm.2 h
  | [], _ :: _, hm, _ => by simp at hm
  | _ :: _, [], hm, _ => by simp at hm
theorem lsw_ok {df : Int} {ps : Array (Int × Int)} {l dt : Nat} {ts : List Nat} {ls : Lcs} {r : List V} {n : Int} {h : Mem} {a : Int} (hd : decode (mC k) pc = .ok (.lookupswitch df ps, l)) (h1 : (pc : Int) + df = (dt : Int)) (h2 : (ps.toList.zip (ps.toList.drop 1)).all (fun (a, next) => a.1 < next.1) = true) (h3 : ps.toList.map (fun q => (pc : Int) + q.2) = ts.map (fun t : Nat => (t : Int)))
    (hJ : ∀ t, J t ls r n h → T_at g k t ls r n h Q) (h4 : lsw (fun t => J t ls r n h) a ps.toList ts dt) : T_at g k pc ls (vI a :: r) n h Q := by
  obtain ⟨t, e1, e2⟩ := lsw_at h1 h3 h4
  exact T_lookup hd h2 rfl e1 (hJ _ e2)
theorem stp_ok {i : Instr} {l : Nat} {m : Int} {x : List Nat} {ls : Lcs} {s : List V} {n : Int} {h : Mem} (hG : Gok g) (hF : Fm md g) (ho : (mY k).cls = ow o) (hok : Hok k) (hd : decode (mC k) pc = .ok (i, l)) (hc : chkE k o pc md i l m x = true)
    (hJ : ∀ t ls s n h, J t ls s n h → T_at g k t ls s n h Q) (hK : ∀ ls s n h, K ls s n h → T_at g k (pc + l) ls s n h Q) (hf : stp g Q J K i m x ls s n h) : T_at g k pc ls s n h Q := by
  cases i with
  | iconst c =>
    obtain ⟨hl, rfl, h1, h2⟩ := of_decide_eq_true hc
    subst hl
    exact T_iconst hd ⟨by omega, by omega⟩ (hK _ _ _ _ hf)
  | bipush c =>
    obtain ⟨hl, rfl, h1, h2⟩ := of_decide_eq_true hc
    subst hl
    exact T_bipush hd ⟨by omega, by omega⟩ (hK _ _ _ _ hf)
  | sipush c =>
    obtain ⟨hl, rfl, h1, h2⟩ := of_decide_eq_true hc
    subst hl
    exact T_sipush hd ⟨by omega, by omega⟩ (hK _ _ _ _ hf)
  | ldc idx =>
    obtain ⟨hl, h1, h2, h3⟩ := of_decide_eq_true hc
    subst hl
    exact T_ldc hd ⟨h1, h2⟩ (by rw [ho]; exact CT_ok _ h3 _ List.mem_cons_self) (hK _ _ _ _ hf)
  | ldc_w idx =>
    obtain ⟨hl, h1, h2, h3⟩ := of_decide_eq_true hc
    subst hl
    exact T_ldcw hd ⟨h1, h2⟩ (by rw [ho]; exact CT_ok _ h3 _ List.mem_cons_self) (hK _ _ _ _ hf)
  | ldc2_w idx =>
    obtain ⟨hl, h1, h2, h3⟩ := of_decide_eq_true hc
    subst hl
    exact T_ldc2 hd ⟨h1, h2⟩ (by rw [ho]; exact CL_ok _ h3 _ List.mem_cons_self) (hK _ _ _ _ hf)
  | lconst c =>
    obtain ⟨hl, rfl⟩ := of_decide_eq_true hc
    subst hl
    exact T_lconst hd (hK _ _ _ _ hf)
  | aconst_null =>
    rcases x with _ | ⟨d, _ | ⟨_, _⟩⟩
    · exact hf.elim
    · obtain ⟨hl, h1⟩ := of_decide_eq_true hc
      subst hl
      rw [h1] at hf
      exact T_null hd (hK _ _ _ _ hf)
    · exact hf.elim
  | iload j =>
    obtain ⟨hl, rfl⟩ := of_decide_eq_true hc
    subst hl
    obtain ⟨v, h1, h2⟩ := lga_ok hf
    obtain ⟨a, r, e, h2⟩ := pI_ok h2
    cases e
    exact T_iload hd h1 (hK _ _ _ _ h2)
  | iload_n j =>
    obtain ⟨hl, rfl⟩ := of_decide_eq_true hc
    subst hl
    obtain ⟨v, h1, h2⟩ := lga_ok hf
    obtain ⟨a, r, e, h2⟩ := pI_ok h2
    cases e
    exact T_iload_n hd h1 (hK _ _ _ _ h2)
  | lload j =>
    obtain ⟨hl, rfl⟩ := of_decide_eq_true hc
    subst hl
    obtain ⟨v, h1, h2⟩ := lga_ok hf
    obtain ⟨a, r, e, h2⟩ := pL_ok h2
    cases e
    exact T_lload hd h1 (hK _ _ _ _ h2)
  | lload_n j =>
    obtain ⟨hl, rfl⟩ := of_decide_eq_true hc
    subst hl
    obtain ⟨v, h1, h2⟩ := lga_ok hf
    obtain ⟨a, r, e, h2⟩ := pL_ok h2
    cases e
    exact T_lload_n hd h1 (hK _ _ _ _ h2)
  | aload j =>
    obtain ⟨hl, rfl⟩ := of_decide_eq_true hc
    subst hl
    obtain ⟨v, h1, h2⟩ := lga_ok hf
    obtain ⟨d, a, r, e, h2⟩ := pR_ok h2
    cases e
    exact T_aload hd h1 (hK _ _ _ _ h2)
  | aload_n j =>
    obtain ⟨hl, rfl⟩ := of_decide_eq_true hc
    subst hl
    obtain ⟨v, h1, h2⟩ := lga_ok hf
    obtain ⟨d, a, r, e, h2⟩ := pR_ok h2
    cases e
    exact T_aload_n hd h1 (hK _ _ _ _ h2)
  | istore j =>
    obtain ⟨hl, rfl, h1⟩ := of_decide_eq_true hc
    subst hl
    obtain ⟨a, r, rfl, h2⟩ := pI_ok hf
    exact T_istore hd h1 (by rw [stl_stq]; exact hK _ _ _ _ h2)
  | istore_n j =>
    obtain ⟨hl, rfl, h1⟩ := of_decide_eq_true hc
    subst hl
    obtain ⟨a, r, rfl, h2⟩ := pI_ok hf
    exact T_istore_n hd h1 (by rw [stl_stq]; exact hK _ _ _ _ h2)
  | lstore j =>
    obtain ⟨hl, rfl, h1⟩ := of_decide_eq_true hc
    subst hl
    obtain ⟨a, r, rfl, h2⟩ := pL_ok hf
    exact T_lstore hd h1 (by rw [stl_stq]; exact hK _ _ _ _ h2)
  | lstore_n j =>
    obtain ⟨hl, rfl, h1⟩ := of_decide_eq_true hc
    subst hl
    obtain ⟨a, r, rfl, h2⟩ := pL_ok hf
    exact T_lstore_n hd h1 (by rw [stl_stq]; exact hK _ _ _ _ h2)
  | astore j =>
    obtain ⟨hl, rfl, h1⟩ := of_decide_eq_true hc
    subst hl
    obtain ⟨d, a, r, rfl, h2⟩ := pR_ok hf
    exact T_astore hd h1 (by rw [stl_stq]; exact hK _ _ _ _ h2)
  | astore_n j =>
    obtain ⟨hl, rfl, h1⟩ := of_decide_eq_true hc
    subst hl
    obtain ⟨d, a, r, rfl, h2⟩ := pR_ok hf
    exact T_astore_n hd h1 (by rw [stl_stq]; exact hK _ _ _ _ h2)
  | iinc j c =>
    obtain ⟨hl, rfl, h1, rfl⟩ := of_decide_eq_true hc
    obtain ⟨v, h2, h3⟩ := lga_ok hf
    obtain ⟨a, r, e, h4, h5⟩ := pI_ok h3
    cases e
    rcases hl with rfl | rfl
    · exact T_iinc hd h1 h2 (by rw [wr_i h4, stl_stq]; exact hK _ _ _ _ h5)
    · exact T_iincW hd h1 h2 (by rw [wr_i h4, stl_stq]; exact hK _ _ _ _ h5)
  | iadd =>
    have hl : l = 1 := of_decide_eq_true hc
    subst hl
    rcases x with _ | ⟨x0, xs⟩
    · obtain ⟨a, b, r, rfl, h1, h2⟩ := bI_ok hf
      exact T_iadd hd (by rw [wr_i h1]; exact hK _ _ _ _ h2)
    · obtain ⟨a, b, r, rfl, h2⟩ := bI_ok hf
      exact T_iadd hd (hK _ _ _ _ h2)
  | isub =>
    have hl : l = 1 := of_decide_eq_true hc
    subst hl
    rcases x with _ | ⟨x0, xs⟩
    · obtain ⟨a, b, r, rfl, h1, h2⟩ := bI_ok hf
      exact T_isub hd (by rw [wr_i h1]; exact hK _ _ _ _ h2)
    · obtain ⟨a, b, r, rfl, h2⟩ := bI_ok hf
      exact T_isub hd (hK _ _ _ _ h2)
  | imul =>
    have hl : l = 1 := of_decide_eq_true hc
    subst hl
    rcases x with _ | ⟨x0, xs⟩
    · obtain ⟨a, b, r, rfl, h1, h2⟩ := bI_ok hf
      exact T_imul hd (by rw [wr_i h1]; exact hK _ _ _ _ h2)
    · obtain ⟨a, b, r, rfl, h2⟩ := bI_ok hf
      exact T_imul hd (hK _ _ _ _ h2)
  | ladd =>
    have hl : l = 1 := of_decide_eq_true hc
    subst hl
    rcases x with _ | ⟨x0, xs⟩
    · obtain ⟨a, b, r, rfl, h1, h2⟩ := bL_ok hf
      exact T_ladd hd (by rw [wl_i h1]; exact hK _ _ _ _ h2)
    · obtain ⟨a, b, r, rfl, h2⟩ := bL_ok hf
      exact T_ladd hd (hK _ _ _ _ h2)
  | lsub =>
    have hl : l = 1 := of_decide_eq_true hc
    subst hl
    rcases x with _ | ⟨x0, xs⟩
    · obtain ⟨a, b, r, rfl, h1, h2⟩ := bL_ok hf
      exact T_lsub hd (by rw [wl_i h1]; exact hK _ _ _ _ h2)
    · obtain ⟨a, b, r, rfl, h2⟩ := bL_ok hf
      exact T_lsub hd (hK _ _ _ _ h2)
  | lmul =>
    have hl : l = 1 := of_decide_eq_true hc
    subst hl
    rcases x with _ | ⟨x0, xs⟩
    · obtain ⟨a, b, r, rfl, h1, h2⟩ := bL_ok hf
      exact T_lmul hd (by rw [wl_i h1]; exact hK _ _ _ _ h2)
    · obtain ⟨a, b, r, rfl, h2⟩ := bL_ok hf
      exact T_lmul hd (hK _ _ _ _ h2)
  | iand =>
    have hl : l = 1 := of_decide_eq_true hc
    subst hl
    obtain ⟨a, b, r, rfl, h2⟩ := bI_ok hf
    exact T_iand hd (hK _ _ _ _ h2)
  | ior =>
    have hl : l = 1 := of_decide_eq_true hc
    subst hl
    obtain ⟨a, b, r, rfl, h2⟩ := bI_ok hf
    exact T_ior hd (hK _ _ _ _ h2)
  | ishl =>
    have hl : l = 1 := of_decide_eq_true hc
    subst hl
    obtain ⟨a, b, r, rfl, h2⟩ := bI_ok hf
    exact T_ishl hd (hK _ _ _ _ h2)
  | ishr =>
    have hl : l = 1 := of_decide_eq_true hc
    subst hl
    obtain ⟨a, b, r, rfl, h2⟩ := bI_ok hf
    exact T_ishr hd (hK _ _ _ _ h2)
  | iushr =>
    have hl : l = 1 := of_decide_eq_true hc
    subst hl
    obtain ⟨a, b, r, rfl, h2⟩ := bI_ok hf
    exact T_iushr hd (hK _ _ _ _ h2)
  | land =>
    have hl : l = 1 := of_decide_eq_true hc
    subst hl
    obtain ⟨a, b, r, rfl, h2⟩ := bL_ok hf
    exact T_land hd (hK _ _ _ _ h2)
  | lor =>
    have hl : l = 1 := of_decide_eq_true hc
    subst hl
    obtain ⟨a, b, r, rfl, h2⟩ := bL_ok hf
    exact T_lor hd (hK _ _ _ _ h2)
  | lshl =>
    have hl : l = 1 := of_decide_eq_true hc
    subst hl
    obtain ⟨a, b, r, rfl, h2⟩ := bS_ok hf
    exact T_lshl hd (hK _ _ _ _ h2)
  | lshr =>
    have hl : l = 1 := of_decide_eq_true hc
    subst hl
    obtain ⟨a, b, r, rfl, h2⟩ := bS_ok hf
    exact T_lshr hd (hK _ _ _ _ h2)
  | lushr =>
    have hl : l = 1 := of_decide_eq_true hc
    subst hl
    obtain ⟨a, b, r, rfl, h2⟩ := bS_ok hf
    exact T_lushr hd (hK _ _ _ _ h2)
  | idiv =>
    have hl : l = 1 := of_decide_eq_true hc
    subst hl
    obtain ⟨a, b, r, rfl, h1, h2, h3⟩ := bI_ok hf
    exact T_kn (fun hw => T_idiv hd h1 (hw (vI a) (by simp)) (hw (vI b) (by simp)) h2 (hK _ _ _ _ h3))
  | ldiv =>
    have hl : l = 1 := of_decide_eq_true hc
    subst hl
    obtain ⟨a, b, r, rfl, h1, h2, h3⟩ := bL_ok hf
    exact T_kn (fun hw => T_ldiv hd h1 (hw (vL a) (by simp)) (hw (vL b) (by simp)) h2 (hK _ _ _ _ h3))
  | irem =>
    have hl : l = 1 := of_decide_eq_true hc
    subst hl
    obtain ⟨a, b, r, rfl, h1, h3⟩ := bI_ok hf
    exact T_kn (fun hw => T_irem hd h1 (hw (vI a) (by simp)) (hw (vI b) (by simp)) (i32_rem (hw (vI a) (by simp))) (hK _ _ _ _ h3))
  | lrem =>
    have hl : l = 1 := of_decide_eq_true hc
    subst hl
    obtain ⟨a, b, r, rfl, h1, h3⟩ := bL_ok hf
    exact T_kn (fun hw => T_lrem hd h1 (hw (vL a) (by simp)) (hw (vL b) (by simp)) (i64_rem (hw (vL a) (by simp))) (hK _ _ _ _ h3))
  | lcmp =>
    have hl : l = 1 := of_decide_eq_true hc
    subst hl
    obtain ⟨a, b, r, rfl, h3⟩ := bL_ok hf
    exact T_kn (fun hw => T_lcmp hd (hw (vL a) (by simp)) (hw (vL b) (by simp)) (hK _ _ _ _ h3))
  | ineg =>
    have hl : l = 1 := of_decide_eq_true hc
    subst hl
    obtain ⟨a, r, rfl, h1, h3⟩ := pI_ok hf
    exact T_ineg hd (by rw [wr_i h1]; exact hK _ _ _ _ h3)
  | i2l =>
    have hl : l = 1 := of_decide_eq_true hc
    subst hl
    obtain ⟨a, r, rfl, h3⟩ := pI_ok hf
    exact T_kn (fun hw => T_i2l hd (hw (vI a) (by simp)) (hK _ _ _ _ h3))
  | l2i =>
    have hl : l = 1 := of_decide_eq_true hc
    subst hl
    obtain ⟨a, r, rfl, h3⟩ := pL_ok hf
    exact T_l2i hd (hK _ _ _ _ h3)
  | i2b =>
    have hl : l = 1 := of_decide_eq_true hc
    subst hl
    obtain ⟨a, r, rfl, h3⟩ := pI_ok hf
    exact T_i2b hd (hK _ _ _ _ h3)
  | i2s =>
    have hl : l = 1 := of_decide_eq_true hc
    subst hl
    obtain ⟨a, r, rfl, h3⟩ := pI_ok hf
    exact T_i2s hd (hK _ _ _ _ h3)
  | i2c =>
    have hl : l = 1 := of_decide_eq_true hc
    subst hl
    obtain ⟨a, r, rfl, h3⟩ := pI_ok hf
    exact T_i2c hd (hK _ _ _ _ h3)
  | dup =>
    have hl : l = 1 := of_decide_eq_true hc
    subst hl
    obtain ⟨v, r, rfl, h1, h2⟩ := pV_ok hf
    exact T_dup hd (c1_ok h1) (hK _ _ _ _ h2)
  | pop =>
    have hl : l = 1 := of_decide_eq_true hc
    subst hl
    obtain ⟨v, r, rfl, h1, h2⟩ := pV_ok hf
    exact T_pop hd (c1_ok h1) (hK _ _ _ _ h2)
  | dup_x1 =>
    have hl : l = 1 := of_decide_eq_true hc
    subst hl
    obtain ⟨v, r, rfl, h1⟩ := pV_ok hf
    obtain ⟨w, r, rfl, h2, h3, h4⟩ := pV_ok h1
    exact T_dup_x1 hd (c1_ok h2) (c1_ok h3) (hK _ _ _ _ h4)
  | dup_x2 =>
    have hl : l = 1 := of_decide_eq_true hc
    subst hl
    obtain ⟨v, r, rfl, h1⟩ := pV_ok hf
    obtain ⟨w, r, rfl, h1b⟩ := pV_ok h1
    obtain ⟨u, r, rfl, h2, h3, h5, h4⟩ := pV_ok h1b
    exact T_dup_x2 hd (c1_ok h2) (c1_ok h3) (c1_ok h5) (hK _ _ _ _ h4)
  | dup2 =>
    have hl : l = 1 := of_decide_eq_true hc
    subst hl
    rcases x with _ | ⟨x0, xs⟩
    · obtain ⟨v, r, rfl, h1⟩ := pV_ok hf
      obtain ⟨w, r, rfl, h2, h3, h4⟩ := pV_ok h1
      exact T_dup2 hd (c1_ok h2) (c1_ok h3) (hK _ _ _ _ h4)
    · obtain ⟨a, r, rfl, h1⟩ := pL_ok hf
      exact T_dup2L hd (hK _ _ _ _ h1)
  | if_icmp cnd off =>
    rcases x with _ | ⟨t, _ | ⟨_, _⟩⟩
    · cases cnd <;> exact hf.elim
    · cases cnd with
      | eq =>
        obtain ⟨hl, ht⟩ := of_decide_eq_true hc
        subst hl
        obtain ⟨a, b, r, rfl, h2⟩ := bI_ok hf
        refine T_icmp_eq hd ht (fun q => hJ _ _ _ _ _ ?_) (fun q => hK _ _ _ _ ?_)
        · rw [if_pos (by omega)] at h2; exact h2
        · rw [if_neg (by omega)] at h2; exact h2
      | ne =>
        obtain ⟨hl, ht⟩ := of_decide_eq_true hc
        subst hl
        obtain ⟨a, b, r, rfl, h2⟩ := bI_ok hf
        refine T_icmp_ne hd ht (fun q => hJ _ _ _ _ _ ?_) (fun q => hK _ _ _ _ ?_)
        · rw [if_neg (by omega)] at h2; exact h2
        · rw [if_pos (by omega)] at h2; exact h2
      | lt =>
        obtain ⟨hl, ht⟩ := of_decide_eq_true hc
        subst hl
        obtain ⟨a, b, r, rfl, h2⟩ := bI_ok hf
        refine T_icmp_lt hd ht (fun q => hJ _ _ _ _ _ ?_) (fun q => hK _ _ _ _ ?_)
        · rw [if_pos (by omega)] at h2; exact h2
        · rw [if_neg (by omega)] at h2; exact h2
      | ge =>
        obtain ⟨hl, ht⟩ := of_decide_eq_true hc
        subst hl
        obtain ⟨a, b, r, rfl, h2⟩ := bI_ok hf
        refine T_icmp_ge hd ht (fun q => hJ _ _ _ _ _ ?_) (fun q => hK _ _ _ _ ?_)
        · rw [if_neg (by omega)] at h2; exact h2
        · rw [if_pos (by omega)] at h2; exact h2
      | gt =>
        obtain ⟨hl, ht⟩ := of_decide_eq_true hc
        subst hl
        obtain ⟨a, b, r, rfl, h2⟩ := bI_ok hf
        refine T_icmp_gt hd ht (fun q => hJ _ _ _ _ _ ?_) (fun q => hK _ _ _ _ ?_)
        · rw [if_pos (by omega)] at h2; exact h2
        · rw [if_neg (by omega)] at h2; exact h2
      | le =>
        obtain ⟨hl, ht⟩ := of_decide_eq_true hc
        subst hl
        obtain ⟨a, b, r, rfl, h2⟩ := bI_ok hf
        refine T_icmp_le hd ht (fun q => hJ _ _ _ _ _ ?_) (fun q => hK _ _ _ _ ?_)
        · rw [if_neg (by omega)] at h2; exact h2
        · rw [if_pos (by omega)] at h2; exact h2
    · cases cnd <;> exact hf.elim
  | ifCond cnd off =>
    rcases x with _ | ⟨t, _ | ⟨_, _⟩⟩
    · cases cnd <;> exact hf.elim
    · cases cnd with
      | eq =>
        obtain ⟨hl, ht⟩ := of_decide_eq_true hc
        subst hl
        obtain ⟨a, r, rfl, h2⟩ := pI_ok hf
        refine T_if_eq hd ht (fun q => hJ _ _ _ _ _ ?_) (fun q => hK _ _ _ _ ?_)
        · rw [if_pos (by omega)] at h2; exact h2
        · rw [if_neg (by omega)] at h2; exact h2
      | ne =>
        obtain ⟨hl, ht⟩ := of_decide_eq_true hc
        subst hl
        obtain ⟨a, r, rfl, h2⟩ := pI_ok hf
        refine T_if_ne hd ht (fun q => hJ _ _ _ _ _ ?_) (fun q => hK _ _ _ _ ?_)
        · rw [if_neg (by omega)] at h2; exact h2
        · rw [if_pos (by omega)] at h2; exact h2
      | lt =>
        obtain ⟨hl, ht⟩ := of_decide_eq_true hc
        subst hl
        obtain ⟨a, r, rfl, h2⟩ := pI_ok hf
        refine T_if_lt hd ht (fun q => hJ _ _ _ _ _ ?_) (fun q => hK _ _ _ _ ?_)
        · rw [if_pos (by omega)] at h2; exact h2
        · rw [if_neg (by omega)] at h2; exact h2
      | ge =>
        obtain ⟨hl, ht⟩ := of_decide_eq_true hc
        subst hl
        obtain ⟨a, r, rfl, h2⟩ := pI_ok hf
        refine T_if_ge hd ht (fun q => hJ _ _ _ _ _ ?_) (fun q => hK _ _ _ _ ?_)
        · rw [if_neg (by omega)] at h2; exact h2
        · rw [if_pos (by omega)] at h2; exact h2
      | gt =>
        obtain ⟨hl, ht⟩ := of_decide_eq_true hc
        subst hl
        obtain ⟨a, r, rfl, h2⟩ := pI_ok hf
        refine T_if_gt hd ht (fun q => hJ _ _ _ _ _ ?_) (fun q => hK _ _ _ _ ?_)
        · rw [if_pos (by omega)] at h2; exact h2
        · rw [if_neg (by omega)] at h2; exact h2
      | le =>
        obtain ⟨hl, ht⟩ := of_decide_eq_true hc
        subst hl
        obtain ⟨a, r, rfl, h2⟩ := pI_ok hf
        refine T_if_le hd ht (fun q => hJ _ _ _ _ _ ?_) (fun q => hK _ _ _ _ ?_)
        · rw [if_neg (by omega)] at h2; exact h2
        · rw [if_pos (by omega)] at h2; exact h2
    · cases cnd <;> exact hf.elim
  | if_acmp cnd off =>
    rcases x with _ | ⟨t, _ | ⟨_, _⟩⟩
    · cases cnd <;> exact hf.elim
    · cases cnd with
      | eq =>
        obtain ⟨hl, ht⟩ := of_decide_eq_true hc
        subst hl
        obtain ⟨d, a, r, rfl, h2'⟩ := pR_ok hf
        obtain ⟨d', a', r', rfl, h3, h4, h2⟩ := pR_ok h2'
        refine T_acmp_eq hd ht h4 h3 (fun q => hJ _ _ _ _ _ ?_) (fun q => hK _ _ _ _ ?_)
        · rw [if_pos (by omega)] at h2; exact h2
        · rw [if_neg (by omega)] at h2; exact h2
      | ne =>
        obtain ⟨hl, ht⟩ := of_decide_eq_true hc
        subst hl
        obtain ⟨d, a, r, rfl, h2'⟩ := pR_ok hf
        obtain ⟨d', a', r', rfl, h3, h4, h2⟩ := pR_ok h2'
        refine T_acmp_ne hd ht h4 h3 (fun q => hJ _ _ _ _ _ ?_) (fun q => hK _ _ _ _ ?_)
        · rw [if_neg (by omega)] at h2; exact h2
        · rw [if_pos (by omega)] at h2; exact h2
    · cases cnd <;> exact hf.elim
  | ifnull off =>
    rcases x with _ | ⟨t, _ | ⟨_, _⟩⟩
    · exact hf.elim
    · obtain ⟨hl, ht⟩ := of_decide_eq_true hc
      subst hl
      obtain ⟨d, a, r, rfl, h2⟩ := pR_ok hf
      refine T_ifnull hd ht (fun q => hJ _ _ _ _ _ ?_) (fun q => hK _ _ _ _ ?_)
      · rw [if_pos (by omega)] at h2; exact h2
      · rw [if_neg (by omega)] at h2; exact h2
    · exact hf.elim
  | ifnonnull off =>
    rcases x with _ | ⟨t, _ | ⟨_, _⟩⟩
    · exact hf.elim
    · obtain ⟨hl, ht⟩ := of_decide_eq_true hc
      subst hl
      obtain ⟨d, a, r, rfl, h2⟩ := pR_ok hf
      refine T_ifnonnull hd ht (fun q => hJ _ _ _ _ _ ?_) (fun q => hK _ _ _ _ ?_)
      · rw [if_neg (by omega)] at h2; exact h2
      · rw [if_pos (by omega)] at h2; exact h2
    · exact hf.elim
  | goto off =>
    rcases x with _ | ⟨t, _ | ⟨_, _⟩⟩
    · exact hf.elim
    · obtain ⟨hl, ht⟩ := of_decide_eq_true hc
      exact T_goto (by rw [hl] at hd; exact hd) ht (hJ _ _ _ _ _ hf)
    · exact hf.elim
  | nop =>
    exact absurd hc (by simp [chkE])
  | tableswitch df lo hi offs =>
    rcases x with _ | ⟨dt, ts⟩
    · exact hf.elim
    · obtain ⟨h1, h2, h3⟩ := of_decide_eq_true hc
      obtain ⟨a, r, rfl, h4⟩ := pI_ok hf
      exact tsw_ok hd h1 h2 h3 (fun t => hJ t _ _ _ _) h4
  | lookupswitch df ps =>
    rcases x with _ | ⟨dt, ts⟩
    · exact hf.elim
    · obtain ⟨h1, h2, h3⟩ := of_decide_eq_true hc
      obtain ⟨a, r, rfl, h4⟩ := pI_ok hf
      exact lsw_ok hd h1 h2 h3 (fun t => hJ t _ _ _ _) h4
  | getfield idx =>
    rcases x with _ | ⟨c, _ | ⟨j, _ | ⟨t, _ | ⟨u, _ | ⟨_, _⟩⟩⟩⟩⟩
    · exact hf.elim
    · exact hf.elim
    · exact hf.elim
    · obtain ⟨hl, h1, h2, h3, h4, h5⟩ := of_decide_eq_true hc
      subst hl; subst h3
      obtain ⟨d, a, r, rfl, h6, h7, h8⟩ := pR_ok hf
      exact T_kn (fun hw => T_get hG hd (lkf ho h5) h1 h2 h4 h6 (nn_ok h7 (hw _ (by simp))) (hK _ _ _ _ h8))
    · obtain ⟨hl, h1, h2, h3, h4, h4', h5, h6, h7, h8⟩ := of_decide_eq_true hc
      subst hl; subst h5
      obtain ⟨d, a, r, rfl, h9, h10, h12, h11⟩ := pR_ok hf
      subst h6
      have hF' : g.2.2 c j = some m := by rw [show g.2.2 c j = fin c j from hF c j, h7]
      exact T_kn (fun hw => T_fin_eq h1 h9 (nn_ok h10 (hw _ (by simp))) hF' (fun he => T_get hG hd (lkf ho h8) h1 h2 h4 h9 (nn_ok h10 (hw _ (by simp))) (T_tag1 h3 he (fun hz => by have hp := (wt_fit (hw (vR d a) (by simp)) h9 (nn_ok h10 (hw _ (by simp)))).1; omega) (hK _ _ _ _ h11))))
    · exact hf.elim
  | putfield idx =>
    rcases x with _ | ⟨c, _ | ⟨j, _ | ⟨t, _ | ⟨_, _⟩⟩⟩⟩
    · exact hf.elim
    · exact hf.elim
    · exact hf.elim
    · obtain ⟨hl, h1, h2, h3, h4, h5, h6⟩ := of_decide_eq_true hc
      subst hl; subst h3
      obtain ⟨v, r, rfl, h7⟩ := pV_ok hf
      obtain ⟨d, a, r, rfl, h8, h9, h10⟩ := pR_ok h7
      obtain ⟨cnd, y, h11, h12, h13⟩ := pvq_ok h10
      have hlk : LkF (mY k).cls idx c j := by
        rcases h6 with q | q
        · exact lkf ho q.2
        · exact lkf ho (Or.inl q.2.2)
      have hno : g.2.2 c j = none := by
        cases md with
        | true => rw [show g.2.2 c j = fin c j from hF c j]; exact h5 rfl
        | false => exact hF c j
      refine T_kn (fun hw => T_put hG hd hlk h1 h2 h4 h8 (nn_ok h9 (hw _ (by simp))) ?_ h11 h12 (fun w hw' => by rw [hno] at hw'; cases hw') (hK _ _ _ _ h13))
      rcases h6 with q | q
      · exact Or.inl q.1
      · refine Or.inr ⟨q.1, q.2.1, ?_⟩
        rw [ho]; exact FT_ok _ q.2.2 _ List.mem_cons_self
    · exact hf.elim
  | getstatic idx =>
    rcases x with _ | ⟨z, _ | ⟨d, _ | ⟨_, _⟩⟩⟩
    · exact hf.elim
    · obtain ⟨hl, h1, h2, h3, h4, h5⟩ := of_decide_eq_true hc
      subst hl
      exact T_gets hd (stz_mem h2 h1) (lkg ho h5) (Or.inl ⟨m, rfl, h3, h4⟩) (hK _ _ _ _ hf)
    · obtain ⟨hl, h1, h2, h3, h4, h5, h6, h7, h8⟩ := of_decide_eq_true hc
      subst hl
      exact T_gets hd (stz_mem h2 h1) (lkg ho h8) (Or.inr ⟨m, d / 2, by rw [← h5], by omega, h4, h3, h7, h6⟩) (hK _ _ _ _ hf)
    · exact hf.elim
  | iaload =>
    have hl : l = 1 := of_decide_eq_true hc
    subst hl
    obtain ⟨d, a, i, r, rfl, h1, h2, h3, h4, h5⟩ := aE_ok hf
    exact T_kn (fun hw => T_iald hd h1 (nn_ok h2 (hw _ (by simp))) h3 h4 (hK _ _ _ _ h5))
  | saload =>
    have hl : l = 1 := of_decide_eq_true hc
    subst hl
    obtain ⟨d, a, i, r, rfl, h1, h2, h3, h4, h5⟩ := aE_ok hf
    exact T_kn (fun hw => T_sald hd h1 (nn_ok h2 (hw _ (by simp))) h3 h4 (hK _ _ _ _ h5))
  | laload =>
    have hl : l = 1 := of_decide_eq_true hc
    subst hl
    obtain ⟨d, a, i, r, rfl, h1, h2, h3, h4, h5⟩ := aE_ok hf
    exact T_kn (fun hw => T_lald hd h1 (nn_ok h2 (hw _ (by simp))) h3 h4 (hK _ _ _ _ h5))
  | baload =>
    rcases x with _ | ⟨ak, _ | ⟨_, _⟩⟩
    · exact hf.elim
    · obtain ⟨hl, h0⟩ := of_decide_eq_true hc
      subst hl
      obtain ⟨d, a, i, r, rfl, h1, h2, h3, h4, h5⟩ := aE_ok hf
      rcases h0 with rfl | rfl
      · exact T_kn (fun hw => T_bald hd h1 (nn_ok h2 (hw _ (by simp))) h3 h4 (hK _ _ _ _ h5))
      · exact T_kn (fun hw => T_zald hd h1 (nn_ok h2 (hw _ (by simp))) h3 h4 (hK _ _ _ _ h5))
    · exact hf.elim
  | aaload =>
    rcases x with _ | ⟨ak, _ | ⟨d0, _ | ⟨_, _ | ⟨_, _⟩⟩⟩⟩
    · exact hf.elim
    · exact hf.elim
    · obtain ⟨hl, h01, h02, h03⟩ := of_decide_eq_true hc
      subst hl
      obtain ⟨d, a, i, r, rfl, h1, h2, h3, h4, h5⟩ := aE_ok hf
      refine T_kn (fun hw => T_dyn (by omega) (by omega) (by omega) (by omega) h1 (nn_ok h2 (hw _ (by simp))) (List.mem_cons_of_mem _ List.mem_cons_self) (fun hs => T_aald hd h01 (by omega) h1 (nn_ok h2 (hw _ (by simp))) h3 h4 ?_))
      rw [rd_dyn hs]
      have e : ak = 45 ∨ ak = 46 ∨ ak = 47 := by omega
      rcases e with rfl | rfl | rfl <;> (subst h03; exact hK _ _ _ _ h5)
    · obtain ⟨hl, rfl⟩ := of_decide_eq_true hc
      subst hl
      obtain ⟨d, a, i, r, rfl, h1, h2, h3, h4, h5⟩ := aE_ok hf
      exact T_kn (fun hw => T_aald hd (by omega) (by omega) h1 (nn_ok h2 (hw _ (by simp))) h3 h4 (hK _ _ _ _ h5))
    · exact hf.elim
  | iastore =>
    have hl : l = 1 := of_decide_eq_true hc
    subst hl
    obtain ⟨y, r, rfl, h0⟩ := pI_ok hf
    obtain ⟨d, a, i, r, rfl, h1, h2, h3, h4, h6, h5⟩ := aE_ok h0
    exact T_kn (fun hw => T_iast hd h1 (nn_ok h2 (hw (vR d a) (by simp))) h6 h3 h4 hG (hK _ _ _ _ h5))
  | sastore =>
    have hl : l = 1 := of_decide_eq_true hc
    subst hl
    obtain ⟨y, r, rfl, h0⟩ := pI_ok hf
    obtain ⟨d, a, i, r, rfl, h1, h2, h3, h4, h5⟩ := aE_ok h0
    exact T_kn (fun hw => T_sast hd h1 (nn_ok h2 (hw (vR d a) (by simp))) h3 h4 hG (hK _ _ _ _ h5))
  | lastore =>
    have hl : l = 1 := of_decide_eq_true hc
    subst hl
    obtain ⟨y, r, rfl, h0⟩ := pL_ok hf
    obtain ⟨d, a, i, r, rfl, h1, h2, h3, h4, h5⟩ := aE_ok h0
    exact T_kn (fun hw => T_last hd h1 (nn_ok h2 (hw (vR d a) (by simp))) h3 h4 hG (hK _ _ _ _ h5))
  | bastore =>
    have hl : l = 1 := of_decide_eq_true hc
    subst hl
    rcases x with _ | ⟨ak, _ | ⟨_, _⟩⟩
    · obtain ⟨y, r, rfl, h0⟩ := pI_ok hf
      obtain ⟨d, a, i, r, rfl, h1, h2, h3, h4, h6, h5⟩ := aE_ok h0
      exact T_kn (fun hw => T_zast hd h1 (nn_ok h2 (hw (vR d a) (by simp))) h3 h4 h6 hG (hK _ _ _ _ h5))
    · obtain ⟨y, r, rfl, h0⟩ := pI_ok hf
      obtain ⟨d, a, i, r, rfl, h1, h2, h3, h4, h5⟩ := aE_ok h0
      exact T_kn (fun hw => T_bast hd h1 (nn_ok h2 (hw (vR d a) (by simp))) h3 h4 hG (hK _ _ _ _ h5))
    · obtain ⟨y, r, rfl, h0⟩ := pI_ok hf
      obtain ⟨d, a, i, r, rfl, h1, h2, h3, h4, h6, h5⟩ := aE_ok h0
      exact T_kn (fun hw => T_zast hd h1 (nn_ok h2 (hw (vR d a) (by simp))) h3 h4 h6 hG (hK _ _ _ _ h5))
  | aastore =>
    rcases x with _ | ⟨ak, _ | ⟨c, _ | ⟨_, _⟩⟩⟩
    · exact hf.elim
    · exact hf.elim
    · obtain ⟨hl, h01, h02, h03⟩ := of_decide_eq_true hc
      subst hl
      obtain ⟨d', y, r, rfl, h0⟩ := pR_ok hf
      obtain ⟨d, a, i, r, rfl, h1, h2, h3, h4, h6, h7, h5⟩ := aE_ok h0
      exact T_kn (fun hw => T_aast hd h01 h02 h1 (by rw [h6, h03]) (nn_ok h2 (hw (vR d a) (by simp))) (nn_ok h7 (hw (vR d' y) (by simp))) h3 h4 hG (hK _ _ _ _ h5))
    · exact hf.elim
  | arraylength =>
    rcases x with _ | ⟨ak, _ | ⟨_, _⟩⟩
    · exact hf.elim
    · obtain ⟨hl, h01, h02⟩ := of_decide_eq_true hc
      subst hl
      obtain ⟨d, a, r, rfl, h1, h2, h3, h4⟩ := pR_ok hf
      exact T_kn (fun hw => T_alen hd h01 h02 h1 (nn_ok h2 (hw _ (by simp))) h3 (hK _ _ _ _ h4))
    · exact hf.elim
  | new idx =>
    rcases x with _ | ⟨c, _ | ⟨d, _ | ⟨N, _ | ⟨_, _⟩⟩⟩⟩
    · exact hf.elim
    · exact hf.elim
    · exact hf.elim
    · obtain ⟨hl, h1, h2, h3, h4, h5, h6⟩ := of_decide_eq_true hc
      subst hl; subst h2; subst h3
      have hno : ∀ j, g.2.2 c j = none := by
        cases md with
        | true => exact fun j => by rw [show g.2.2 c j = fin c j from hF c j]; exact fin_all (h6 rfl) j
        | false => exact fun j => hF c j
      exact T_new hG hd h1 (by rw [ho]; exact KC_ok _ h4 _ List.mem_cons_self) (NI_ok _ h5 _ List.mem_cons_self) (NI_ok _ h5 _ (List.mem_cons_of_mem _ List.mem_cons_self)) hf.1 hf.2.1 hno (hK _ _ _ _ hf.2.2)
    · exact hf.elim
  | newarray at0 =>
    rcases x with _ | ⟨ak, _ | ⟨d, _ | ⟨_, _⟩⟩⟩
    · exact hf.elim
    · exact hf.elim
    · obtain ⟨hl, h1, h2, h3⟩ := of_decide_eq_true hc
      subst hl; subst h3
      obtain ⟨a, r, rfl, h4, h5, h6, h7, h8⟩ := pI_ok hf
      have hno : ∀ j, g.2.2 ak j = none := by
        cases md with
        | true => exact fun j => by rw [show g.2.2 ak j = fin ak j from hF ak j]; exact fin_arr (by rw [h1] at h2 ⊢; cases at0 <;> simp_all [atc]) j
        | false => exact fun j => hF ak j
      subst h1
      exact T_newa hG hd h2 (acl at0 h2) h4 h5 h6 h7 hno (hK _ _ _ _ h8)
    · exact hf.elim
  | anewarray idx =>
    rcases x with _ | ⟨ak, _ | ⟨d, _ | ⟨_, _⟩⟩⟩
    · exact hf.elim
    · exact hf.elim
    · obtain ⟨hl, h1, h2, h3, h9⟩ := of_decide_eq_true hc
      subst hl; subst h3
      obtain ⟨a, r, rfl, h4, h5, h6, h7, h8⟩ := pI_ok hf
      have hno : ∀ j, g.2.2 ak j = none := by
        cases md with
        | true => exact fun j => by rw [show g.2.2 ak j = fin ak j from hF ak j]; exact fin_arr (by omega) j
        | false => exact fun j => hF ak j
      exact T_anew hG hd h1 h2 (by rw [ho]; exact KC_ok _ h9 _ List.mem_cons_self) (aov h1 h2) h4 h5 h6 h7 hno (hK _ _ _ _ h8)
    · exact hf.elim
  | invokevirtual idx =>
    rcases x with _ | ⟨k', _ | ⟨c, _ | ⟨d', _ | ⟨W, _ | ⟨hc', _ | ⟨rt, ts⟩⟩⟩⟩⟩⟩
    · exact hf.elim
    · exact hf.elim
    · exact hf.elim
    · exact hf.elim
    · exact hf.elim
    · exact hf.elim
    · obtain ⟨hl, h1, h2, h3, h4, h5, h6, h7⟩ := of_decide_eq_true hc
      subst hl; subst h2
      obtain ⟨as0, as, rest, rfl, e1, e2, h0⟩ := tkA_ok hf
      obtain ⟨d, a, r, rfl, h8, h9, h10, h11⟩ := pR_ok h0
      rw [List.append_nil] at h11
      refine T_kn (fun hw => T_invV hd (lkv ho h3 h4 e1) hok (wds_rm h5 (by omega)) h1 h8 (nn_ok h9 (hw _ (by simp))) e2 (T_mono h11 (kq_kn h7 hJ hK)))
  | invokespecial idx =>
    rcases x with _ | ⟨k', _ | ⟨c, _ | ⟨d', _ | ⟨W, _ | ⟨hc', _ | ⟨rt, ts⟩⟩⟩⟩⟩⟩
    · exact hf.elim
    · obtain ⟨hl, h1, h2, h3⟩ := of_decide_eq_true hc
      subst hl
      obtain ⟨d, a, r, rfl, h8, h9, h10⟩ := pR_ok hf
      exact T_kn (fun hw => T_objInit hd (by rw [ho]; exact MT_ok _ h1 _ List.mem_cons_self) (lwm (lw_at lw_m1 37 rfl) rfl) (lwm (lw_at lw_m1 38 rfl) rfl) (nn_ok h8 (hw _ (by simp))) h2 (Nat.le_trans (Nat.add_le_add_right (Nat.le_of_eq (wds_eq _)) _) (by omega)) (hK _ _ _ _ h10))
    · exact hf.elim
    · exact hf.elim
    · exact hf.elim
    · exact hf.elim
    · obtain ⟨hl, h1, h2, h3, h4, h5, h6, h7⟩ := of_decide_eq_true hc
      subst hl; subst h2
      obtain ⟨as0, as, rest, rfl, e1, e2, h0⟩ := tkA_ok hf
      obtain ⟨d, a, r, rfl, h8, h9, h10, h11⟩ := pR_ok h0
      rw [List.append_nil] at h11
      refine T_kn (fun hw => T_invI hd (lki ho h3 h4 e1) hok (wds_rm h5 (by omega)) h1 h8 (nn_ok h9 (hw _ (by simp))) e2 (T_mono h11 (kq_kn h7 hJ hK)))
  | invokestatic idx =>
    rcases x with _ | ⟨k', _ | ⟨W, _ | ⟨hc', _ | ⟨rt, ts⟩⟩⟩⟩
    · exact hf.elim
    · exact hf.elim
    · obtain ⟨hl, h1, h2, h3, h4⟩ := of_decide_eq_true hc
      subst hl
      obtain ⟨c, r, rfl, h5⟩ := pI_ok hf
      obtain ⟨dp, r, rfl, h6⟩ := pI_ok h5
      obtain ⟨d', b, r, rfl, h7⟩ := pR_ok h6
      obtain ⟨sp, r, rfl, h8⟩ := pI_ok h7
      obtain ⟨d, a, r, rfl, q1, q2, q3, q4, q5, q6, q7, q8, q9, q10, q11, q12⟩ := pR_ok h8
      exact T_kn (fun hw => T_acp hd hG (by rw [ho]; exact AC_ok _ h2 _ List.mem_cons_self) (lwm (lw_at lw_m4 196 rfl) rfl) (lwm (lw_at lw_m4 195 rfl) rfl) (lwm (lw_at lw_m1 20 rfl) rfl) h1 q1 q2 (nn_ok q3 (hw (vR d a) (by simp))) (nn_ok q4 (hw (vR d' b) (by simp))) q5 q6 q7 q8 q9 q10 h3 (Nat.le_trans (Nat.add_le_add_right (Nat.le_of_eq (wds_eq _)) _) (by omega)) (hK _ _ _ _ q12))
    · exact hf.elim
    · obtain ⟨hl, h3, h4, h5, h6, h7⟩ := of_decide_eq_true hc
      subst hl
      obtain ⟨as0, as, rest, rfl, e1, e2, h10, h11⟩ := tkA_ok hf
      rw [List.append_nil] at h11
      exact T_invS hd (lks ho h3 h4 e1) hok (wds_rm h5 (by omega)) e2 (T_mono h11 (kq_kn h7 hJ hK))
  | ireturn =>
    rcases x with _ | ⟨u, _ | ⟨_, _⟩⟩
    · obtain ⟨hl, h1⟩ := of_decide_eq_true hc
      subst hl
      obtain ⟨a, r, rfl, h2, h3⟩ := pI_ok hf
      exact T_iret hd h1 h2 h3
    · obtain ⟨hl, h1⟩ := of_decide_eq_true hc
      subst hl
      obtain ⟨a, r, rfl, h0, h2, h3⟩ := pI_ok hf
      exact T_zret hd h1 h2 h0 h3
    · obtain ⟨hl, h1⟩ := of_decide_eq_true hc
      subst hl
      obtain ⟨a, r, rfl, h2, h3⟩ := pI_ok hf
      exact T_iret hd h1 h2 h3
  | lreturn =>
    obtain ⟨hl, h1⟩ := of_decide_eq_true hc
    subst hl
    obtain ⟨a, r, rfl, h2, h3⟩ := pL_ok hf
    exact T_lret hd h1 h2 h3
  | return_ =>
    obtain ⟨hl, h1⟩ := of_decide_eq_true hc
    subst hl
    exact T_vret hd h1 hf.1 hf.2
  | areturn =>
    rcases x with _ | ⟨kd, _ | ⟨d', _ | ⟨_, _⟩⟩⟩
    · exact hf.elim
    · exact hf.elim
    · obtain ⟨hl, h1, h2⟩ := of_decide_eq_true hc
      subst hl; subst h1
      obtain ⟨d, a, r, rfl, h3, h4, h5⟩ := pR_ok hf
      obtain ⟨ty, h6, h7⟩ : ∃ ty, mRet k = some ty ∧ ((∃ n, ty = .object n) ∨ ∃ t, ty = .array t) := by
        split at h2
        · rename_i n e; exact ⟨_, e, Or.inl ⟨n, rfl⟩⟩
        · rename_i n e; exact ⟨_, e, Or.inr ⟨n, rfl⟩⟩
        · cases h2
      exact T_aret hd h6 h7 h3 h4 h5
    · exact hf.elim
  | athrow =>
    obtain ⟨hl, h1⟩ := of_decide_eq_true hc
    subst hl
    obtain ⟨d, a, r, rfl, h2, h3, h4⟩ := pR_ok hf
    exact T_kn (fun hw => T_athrow hd h1 h2 (nn_ok h3 (hw _ (by simp))) h4)
  | _ => exact hf.elim
theorem run_ok (hG : Gok g) (hF : Fm md g) (ho : (mY k).cls = ow o) (hok : Hok k) (hJ : ∀ t ls s n h, J t ls s n h → T_at g k t ls s n h Q) : ∀ {es : List E} {pc : Nat} {bl : List UInt8} {ls : Lcs} {s : List V} {n : Int} {h : Mem}, bl = (mC k).data.toList.drop pc → chkS k o md bl pc es = true → run g Q J es ls s n h → T_at g k pc ls s n h Q
  | [], _, _, _, _, _, _, _, _, hf => hf.elim
  | (i, m, x) :: es, pc, bl, ls, s, n, h, hb, hc, hf => by
    unfold chkS at hc
    split at hc
    · have e := of_decide_eq_true hc
      subst e
      exact hJ _ _ _ _ _ hf
    · split at hc
      · split at hc
        · rename_i j l hd
          simp only [Bool.and_eq_true] at hc
          obtain ⟨⟨h0, h1⟩, h2⟩ := hc
          have e := ieq2_ok h0
          subst e
          exact stp_ok hG hF ho hok hd h1 hJ (fun ls s n h hk => run_ok hG hF ho hok hJ (by rw [hb, List.drop_drop]) h2 hk) hf
        · cases hc
      · rename_i b bs he
        split at hc
        · rename_i bl' hp
          simp only [Bool.and_eq_true] at hc
          obtain ⟨h1, h2⟩ := hc
          obtain ⟨h3, h4⟩ := pfx_ok hb hp
          have hd := enc_ok (code := mC k) (pc := pc) (i := i) (by rw [he]; exact h3) (by rw [he]; exact List.cons_ne_nil _ _)
          rw [he] at hd
          exact stp_ok hG hF ho hok hd h1 hJ (fun ls s n h hk => run_ok hG hF ho hok hJ h4 h2 hk) hf
        · cases hc
end
theorem lkc_ok {P : Nat → List E → Bool} : ∀ {c : List (Nat × List E)} {t : Nat}, c.all (fun q => P q.1 q.2) = true → P t (lkc c t) = true ∨ lkc c t = []
  | [], _, _ => Or.inr rfl
  | (p, es) :: r, t, h => by
    simp only [List.all_cons, Bool.and_eq_true] at h
    unfold lkc
    by_cases q : p = t
    · rw [if_pos q]; subst q; exact Or.inl h.1
    · rw [if_neg q]; exact lkc_ok h.2
theorem hok_of {k o : Nat} (ho : (mY k).cls = ow o) (h : hokB k o = true) : Hok k := by
  intro x hx
  have := List.all_eq_true.mp h x hx
  simp only [Bool.and_eq_true, decide_eq_true_eq] at this
  refine ⟨this.1, ?_⟩
  rw [ho]; exact KC_ok _ this.2 _ List.mem_cons_self
theorem jm_ok {g : G} {k o : Nat} {md : Bool} {Q : Qt} {c : List (Nat × List E)} {cuts : List Nat} (hG : Gok g) (hF : Fm md g) (ho : (mY k).cls = ow o) (hc : chkM k o md c = true) : ∀ (f t : Nat) (ls : Lcs) (s : List V) (n : Int) (h : Mem), jm g k Q c cuts f t ls s n h → T_at g k t ls s n h Q
  | 0, _, _, _, _, _, hj => hj
  | f + 1, t, ls, s, n, h, hj => by
    unfold chkM at hc
    simp only [Bool.and_eq_true] at hc
    simp only [jm] at hj
    split at hj
    · exact hj
    · rcases lkc_ok (P := chkQ k o md) (t := t) hc.2 with q | q
      · exact run_ok hG hF ho (hok_of ho hc.1) (jm_ok hG hF ho (by unfold chkM; simp only [Bool.and_eq_true]; exact hc) f) rfl q hj
      · rw [q] at hj; exact hj.elim
/-- A BLOCK of method k from t on, to the cuts -/
theorem blk {g : G} {k o : Nat} {md : Bool} {Q : Qt} {c : List (Nat × List E)} (cuts : List Nat) (f : Nat) {t : Nat} {ls : Lcs} {s : List V} {n : Int} {h : Mem} (hG : Gok g) (hF : Fm md g) (ho : (mY k).cls = ow o) (hc : chkM k o md c = true) (hr : run g Q (jm g k Q c cuts f) (lkc c t) ls s n h) : T_at g k t ls s n h Q := by
  have hc' := hc
  unfold chkM at hc'
  simp only [Bool.and_eq_true] at hc'
  rcases lkc_ok (P := chkQ k o md) (t := t) hc'.2 with q | q
  · exact run_ok hG hF ho (hok_of ho hc'.1) (jm_ok hG hF ho hc f) rfl q hr
  · rw [q] at hr; exact hr.elim
