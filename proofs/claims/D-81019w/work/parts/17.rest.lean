set_option maxRecDepth 100000
def atc : ArrayType → Nat | .int => 40 | .byte => 41 | .short => 42 | .long => 43 | .boolean => 44 | _ => 0
section
variable {g : G} {k pc : Nat} {ls : Lcs} {st0 : List V} {n : Int} {h : Mem} {Q : Out → Int → Mem → Prop} {x y z o i : Int} {v w u : V}
theorem T_newa {at0 : ArrayType} (hG : Gok g) (hd : decode (mC k) pc = .ok (.newarray at0, 2)) (hak : atc at0 ≠ 0) (hcl : (Cond.arrayClass (newarray.typeOf at0)) ∈ lw_mv) (h0 : 0 ≤ x) (hx : x ≤ 60000000) (hn : n < g.2.1) (hS : g.1 n = (atc at0, x.toNat)) (hf : ∀ j, g.2.2 (atc at0) j = none)
    (kk : T_at g k (pc + 2) ls (vR (2 * atc at0 + 1) n :: st0) (n + 1) (clr h n) Q) : T_at g k pc ls (vI x :: st0) n h Q := by
  intro p l e R s m args below meth cc D dA A γ0 n0 γ H locs cells slots la hB hL hwl hws
  have hTs : Tx s := hB.2.2.1.1.1
  have hKs : Kx D dA s := hB.2.2.1.1.2.1
  have hxi : i32 x := hws (vI x) (by simp)
  have hsl := slN_cons (S := g.1) hn
  rw [hS] at hsl
  have hR3 := hB.2.1.2.2.1
  have hR4 := hB.2.1.2.2.2
  have hty : newarray.typeOf at0 = aty (atc at0) ∧ 40 ≤ atc at0 ∧ atc at0 < 45 ∧ componentBytes (newarray.typeOf at0) ≤ 8 ∧ (∀ γ, cS γ (sk (atc at0) 0) 0 = defaultValue (newarray.typeOf at0)) ∧ va_RA s (dA (atc at0)) (aty (atc at0)) = (s.vm.findClass ("[" ++ (aty (atc at0)).toString) = some (dA (atc at0))) := by
    cases at0 <;> first | (exact absurd rfl hak) | exact ⟨rfl, by decide, by decide, by decide, fun _ => rfl, rfl⟩
  obtain ⟨t1, t2, t3, t4, t5, t6⟩ := hty
  have ecl := clamp_i hxi h0
  refine va_newaK hB.1.1 hB.1.2.1 (hTs.use hcl args) rfl hd rfl (N := x.toNat) (fun q => by have := (i32_lt hxi i32_0).mp q; omega) ecl (Nat.le_trans (Nat.mul_le_mul_left _ t4) (by omega)) (by omega) (by omega) rfl fun H1 cA e1 z1 o1 hAr hNm => ?_
  have hcA : cA = dA (atc at0) := by
    have hRA := (hKs.2.1 (atc at0) t2 (by omega)).2
    rw [t6, ← t1] at hRA
    exact Option.some.inj (hNm.symm.trans hRA)
  subst hcA
  refine fin_new hG hB hL hwl (fun u hu => hws u (by simp [hu])) hn hS (by omega) hf kk z1 o1 ?_
  unfold Cl
  rw [hS, if_neg (show ¬ atc at0 < 40 by omega)]
  show H1[if n = n then H.size else γ n]? = _
  rw [if_pos rfl, e1]
  congr 1
  refine arrV_congr fun j _ => ?_
  show defaultValue _ = cS _ (sk (atc at0) 0) (clr h n n j)
  rw [clr_self, t5]
theorem T_anew {idx ak : Nat} (hG : Gok g) (hd : decode (mC k) pc = .ok (.anewarray idx, 3)) (ha : 45 ≤ ak) (hb : ak < 48) (hcl : (Cond.classLink (mY k).cls idx (clR (akc ak))) ∈ lw_mv) (hov : (Cond.arrayOver (.object (clR (akc ak)))) ∈ lw_mv) (h0 : 0 ≤ x) (hx : x ≤ 60000000) (hn : n < g.2.1) (hS : g.1 n = (ak, x.toNat)) (hf : ∀ j, g.2.2 ak j = none)
    (kk : T_at g k (pc + 3) ls (vR (2 * ak + 1) n :: st0) (n + 1) (clr h n) Q) : T_at g k pc ls (vI x :: st0) n h Q := by
  intro p l e R s m args below meth cc D dA A γ0 n0 γ H locs cells slots la hB hL hwl hws
  have hTs : Tx s := hB.2.2.1.1.1
  have hKs : Kx D dA s := hB.2.2.1.1.2.1
  have hxi : i32 x := hws (vI x) (by simp)
  have hsl := slN_cons (S := g.1) hn
  rw [hS] at hsl
  have hR3 := hB.2.1.2.2.1
  have hR4 := hB.2.1.2.2.2
  have ecl := clamp_i hxi h0
  have haty : aty ak = .object (clR (akc ak)) ∧ sk ak 0 = 6 + akc ak := by
    have : ak = 45 ∨ ak = 46 ∨ ak = 47 := by omega
    rcases this with e | e | e <;> subst e <;> exact ⟨rfl, rfl⟩
  refine W.anew hB.1.1 hB.1.2.1 hB.1.2.2.2.2.2.1 (hTs.use hcl args) (hTs.use hov args) rfl hd rfl (fun q => by have := (i32_lt hxi i32_0).mp q; omega) (by rw [ecl]; omega) (by omega) (by rw [ecl]; omega) fun cA kA comp q1 q2 q3 q4 => ?_
  have hcA : cA = dA ak := by
    have hRA := (hKs.2.1 ak (by omega) (by omega)).2
    rw [haty.1] at hRA
    obtain ⟨_, _, _, _, _, r4⟩ := hRA
    exact Option.some.inj (q1.symm.trans r4)
  subst hcA
  rw [ecl]
  refine fin_new hG hB hL hwl (fun u hu => hws u (by simp [hu])) hn hS (by omega) hf kk (by simp) (fun q hq => by rw [Array.getElem?_push, if_neg (Nat.ne_of_lt hq)]) ?_
  unfold Cl
  rw [hS, if_neg (show ¬ ak < 40 by omega)]
  show (H.push _)[if n = n then H.size else γ n]? = _
  rw [if_pos rfl]
  have : arrV (dA ak) x.toNat (fun j => cS (fun a => if a = n then H.size else γ a) (sk ak 0) (clr h n n j)) = arrV (dA ak) x.toNat (fun _ => .null) := by
    refine arrV_congr fun j _ => ?_
    rw [clr_self, haty.2]
    unfold cS; rw [if_neg (by omega), if_neg (by omega)]; rfl
  show _ = some (arrV (dA ak) x.toNat (fun j => cS (fun a => if a = n then H.size else γ a) (sk ak 0) (clr h n n j)))
  rw [this, ← arrV_new]
  simp
theorem T_gets {idx : Nat} {C nm ds : String} (hd : decode (mC k) pc = .ok (.getstatic idx, 3)) (hz : (C, nm, ds, v) ∈ stTab) (hlk : (Cond.fieldLink (mY k).cls idx C nm ds) ∈ lw_mv ∨ ∃ host, (Cond.fieldLinkNest (mY k).cls idx C nm ds host) ∈ lw_mv) (hv : (∃ c, v = vL c ∧ i64 c) ∨ ∃ c kd, v = vR (2 * kd + 1) c ∧ c ≠ 0 ∧ c < SB ∧ 1 ≤ c ∧ (stS c).1 = kd ∧ kd ≠ 39)
    (kk : T_at g k (pc + 3) ls (v :: st0) n h Q) : T_at g k pc ls st0 n h Q := by
  intro p l e R s m args below meth cc D dA A γ0 n0 γ H locs cells slots la hB hL hwl hws
  have hTs : Tx s := hB.2.2.1.1.1
  have hZ := hB.2.2.1.1.2.2.1.1 _ hz
  have hM := hB.mx
  have hγ : ∀ a, a < SB → γ a = γ0 a := fun a ha => hB.2.2.2.2.2.1 a (by have : SB ≤ n0 := hB.2.2.2.1; omega)
  have hwv : wtV g.1 n v ∧ cV γ v = cV γ0 v := by
    rcases hv with ⟨c, rfl, hc⟩ | ⟨c, kd, rfl, hc0, hc1, hc2, hc3, hc4⟩
    · exact ⟨hc, rfl⟩
    · refine ⟨Or.inr ⟨by omega, by have := hM.1; omega, ?_⟩, ?_⟩
      · have e2 : (2 * kd + 1) / 2 = kd := by omega
        rw [e2, if_neg hc4, hM.2.2.1 c hc1]; exact hc3
      · show cR γ c = cR γ0 c
        unfold cR; rw [hγ c hc1]
  have K := kk p l e R s m args below meth cc D dA A γ0 n0 γ H locs cells slots la hB hL hwl (fun u hu => by
    rcases List.mem_cons.mp hu with e | e
    · rw [e]; exact hwv.1
    · exact hws u e)
  rw [List.map_cons, hwv.2] at K
  rcases hlk with hl | ⟨host, hl⟩
  · exact va_gets hB.1.1 hB.1.2.1 hZ hB.2.2.1.2.1 hB.1.2.2.2.2.2.1 (hTs.use hl args) (fun _ h => h) hd K
  · exact va_getsN hB.1.1 hB.1.2.1 hZ hB.2.2.1.2.1 hB.1.2.2.2.2.2.1 (hTs.use hl args) (fun _ h => h) hd K
theorem T_ldc {idx : Nat} (hd : decode (mC k) pc = .ok (.ldc idx, 2)) (hx : i32 x) (hl : (Cond.constant (mY k).cls idx (Int32.ofInt x)) ∈ lw_mv) (kk : T_at g k (pc + 2) ls (vI x :: st0) n h Q) : T_at g k pc ls st0 n h Q :=
  fun p l e R s m args below meth cc D dA A γ0 n0 γ H locs cells slots la hB hL hwl hws => lv_ldc hB.1.1 hB.1.2.1 hB.1.2.2.2.2.2.1 (Tx.use hB.2.2.1.1.1 hl args) hd (kk p l e R s m args below meth cc D dA A γ0 n0 γ H locs cells slots la hB hL hwl (fun u hu => by
    rcases List.mem_cons.mp hu with e | e
    · rw [e]; exact hx
    · exact hws u e))
theorem T_ldcw {idx : Nat} (hd : decode (mC k) pc = .ok (.ldc_w idx, 3)) (hx : i32 x) (hl : (Cond.constant (mY k).cls idx (Int32.ofInt x)) ∈ lw_mv) (kk : T_at g k (pc + 3) ls (vI x :: st0) n h Q) : T_at g k pc ls st0 n h Q :=
  fun p l e R s m args below meth cc D dA A γ0 n0 γ H locs cells slots la hB hL hwl hws => lv_ldcw hB.1.1 hB.1.2.1 hB.1.2.2.2.2.2.1 (Tx.use hB.2.2.1.1.1 hl args) hd (kk p l e R s m args below meth cc D dA A γ0 n0 γ H locs cells slots la hB hL hwl (fun u hu => by
    rcases List.mem_cons.mp hu with e | e
    · rw [e]; exact hx
    · exact hws u e))
theorem T_ldc2 {idx : Nat} (hd : decode (mC k) pc = .ok (.ldc2_w idx, 3)) (hx : i64 x) (hl : (Cond.constantLong (mY k).cls idx (Int64.ofInt x)) ∈ lw_mv) (kk : T_at g k (pc + 3) ls (vL x :: st0) n h Q) : T_at g k pc ls st0 n h Q :=
  fun p l e R s m args below meth cc D dA A γ0 n0 γ H locs cells slots la hB hL hwl hws => lv_ldc2 hB.1.1 hB.1.2.1 hB.1.2.2.2.2.2.1 (Tx.use hB.2.2.1.1.1 hl args) hd (kk p l e R s m args below meth cc D dA A γ0 n0 γ H locs cells slots la hB hL hwl (fun u hu => by
    rcases List.mem_cons.mp hu with e | e
    · rw [e]; exact hx
    · exact hws u e))
theorem W_mono {p : Program} {l : Launch} {e : Env} {R : Room} {s : State} {m : MethodId} {args : Array Value} {below : List Frame} {meth : Method} {c : Code} {H : Heap} {locs : List Loc} {cells slots : Nat} {P Q' : State → Prop} {gf : JFrame} (hi : ∀ t, P t → Q' t) (hw : W p l e R s m args below meth c H locs cells slots P gf) : W p l e R s m args below meth c H locs cells slots Q' gf := by
  intro T hT X
  obtain ⟨t, h1, h2⟩ := hw T hT X
  exact ⟨t, h1, hi t h2⟩
/-- the end of a method -/
theorem fin_ret {p : Program} {R : Room} {s : State} {m : MethodId} {args : Array Value} {below : List Frame} {meth : Method} {cc : Code} {D : va_G} {dA : Nat → ClassId} {A : Nat → Prop} {γ0 : Int → Nat} {n0 : Int} {γ : Int → Nat} {H : Heap} {locs : List Loc} {cells slots : Nat} {o' : Out}
    (hB : Bx g k p R s m meth cc D dA A γ0 n0 γ n h H locs cells slots) (hw : wtO g n o') (hQ : Q o' n h) :
    ∀ t, MQ below (fun _ _ o t => o = oc γ o' ∧ t.heap = H) args s cells slots A t → Zq g D dA γ0 A n0 Q R below s t := by
  rintro t ⟨o, h1, h2, ⟨h3, h4⟩, L, ⟨-, h5, h6⟩, h7⟩
  have hR3 := hB.2.1.2.2.1
  have hR4 := hB.2.1.2.2.2
  exact ⟨o, h1, h2, o', n, h, γ, L, cells, slots, hQ, h3, hw, hB.2.2.2.2.1, hB.2.2.2.2.2.1, by rw [h4]; exact hB.mx, h5, h6, hR3, hR4, h7, by rw [va_F, h4]; exact ⟨hB.2.2.1.2.1.1, hB.2.2.1.2.1.2.1⟩⟩
theorem T_iret (hd : decode (mC k) pc = .ok (.ireturn, 1)) (hr : mRet k = some .int) (hst : st0 = []) (hQ : Q (.inl (some (vI x))) n h) : T_at g k pc ls (vI x :: st0) n h Q := by
  subst hst
  intro p l e R s m args below meth cc D dA A γ0 n0 γ H locs cells slots la hB hL hwl hws
  have hlk := hB.1.2.2.2.2.1
  exact W_mono (fin_ret (o' := .inl (some (vI x))) hB (hws _ List.mem_cons_self) hQ) (W.iret (v := Int32.ofInt x) hB.1.1 hB.1.2.1 (hB.1.2.2.2.1.trans hr) (fun t ht _ => ⟨rfl, ht⟩) hB.2.2.1.2.1.2.2 hd hlk)
theorem T_zret (hd : decode (mC k) pc = .ok (.ireturn, 1)) (hr : mRet k = some .boolean) (hst : st0 = []) (hx : 0 ≤ x ∧ x ≤ 1) (hQ : Q (.inl (some (vI x))) n h) : T_at g k pc ls (vI x :: st0) n h Q := by
  subst hst
  intro p l e R s m args below meth cc D dA A γ0 n0 γ H locs cells slots la hB hL hwl hws
  have hlk := hB.1.2.2.2.2.1
  refine W_mono (fin_ret (o' := .inl (some (vI x))) hB (hws _ List.mem_cons_self) hQ) (W.zret (v := Int32.ofInt x) hB.1.1 hB.1.2.1 (hB.1.2.2.2.1.trans hr) ?_ (fun t ht _ => ⟨rfl, ht⟩) hB.2.2.1.2.1.2.2 hd hlk)
  have : x = 0 ∨ x = 1 := by omega
  rcases this with rfl | rfl <;> rfl
theorem T_lret (hd : decode (mC k) pc = .ok (.lreturn, 1)) (hr : mRet k = some .long) (hst : st0 = []) (hQ : Q (.inl (some (vL x))) n h) : T_at g k pc ls (vL x :: st0) n h Q := by
  subst hst
  intro p l e R s m args below meth cc D dA A γ0 n0 γ H locs cells slots la hB hL hwl hws
  have hlk := hB.1.2.2.2.2.1
  exact W_mono (fin_ret (o' := .inl (some (vL x))) hB (hws _ List.mem_cons_self) hQ) (W.lret (v := Int64.ofInt x) hB.1.1 hB.1.2.1 (hB.1.2.2.2.1.trans hr) (fun t ht _ => ⟨rfl, ht⟩) hB.2.2.1.2.1.2.2 hd hlk)
theorem T_vret (hd : decode (mC k) pc = .ok (.return_, 1)) (hr : mRet k = none) (hst : st0 = []) (hQ : Q (.inl none) n h) : T_at g k pc ls st0 n h Q := by
  subst hst
  intro p l e R s m args below meth cc D dA A γ0 n0 γ H locs cells slots la hB hL hwl hws
  have hlk := hB.1.2.2.2.2.1
  exact W_mono (fin_ret (o' := .inl none) hB trivial hQ) (W.vret hB.1.1 hB.1.2.1 (hB.1.2.2.2.1.trans hr) (fun t ht _ => ⟨rfl, ht⟩) hB.2.2.1.2.1.2.2 hd hlk)
theorem T_aret {d kd : Nat} {ty : FieldType} (hd : decode (mC k) pc = .ok (.areturn, 1)) (hr : mRet k = some ty) (hty : (∃ n, ty = .object n) ∨ ∃ t, ty = .array t) (hdk : d / 2 = kd) (hst : st0 = []) (hQ : Q (.inl (some (vR (2 * kd) x))) n h) : T_at g k pc ls (vR d x :: st0) n h Q := by
  subst hst
  intro p l e R s m args below meth cc D dA A γ0 n0 γ H locs cells slots la hB hL hwl hws
  have hlk := hB.1.2.2.2.2.1
  have hw : wtV g.1 n (vR (2 * kd) x) := by
    have := hws (vR d x) List.mem_cons_self
    have e : 2 * kd / 2 = kd := by omega
    rcases this with q | q
    · exact Or.inl ⟨q.1, by omega⟩
    · exact Or.inr (by rw [e, ← hdk]; exact q)
  refine W_mono (fin_ret (o' := .inl (some (vR (2 * kd) x))) hB hw hQ) (W.aret (v := cR γ x) hB.1.1 hB.1.2.1 (hB.1.2.2.2.1.trans hr) hty ?_ (fun t ht _ => ⟨rfl, ht⟩) hB.2.2.1.2.1.2.2 hd hlk)
  unfold cR
  split
  · exact Or.inl rfl
  · exact Or.inr ⟨_, rfl⟩
/-- Object.<init> -/
theorem T_objInit {idx d : Nat} (hd : decode (mC k) pc = .ok (.invokespecial idx, 3)) (hl : (Cond.methodLink (mY k).cls idx Lib.objectInit) ∈ lw_mv) (hi : (Cond.instanceMethod Lib.objectInit) ∈ lw_mv) (hc : (Cond.code Lib.objectInit ⟨#[0xb1]⟩ 1 none) ∈ lw_mv) (hx : x ≠ 0) (hfr : 1 ≤ mFR k) (hlo : (st0.map (fun v => match v with | .inr (.inl _) => 2 | _ => 1)).sum + 12 ≤ mLO k)
    (kk : T_at g k (pc + 3) ls st0 n h Q) : T_at g k pc ls (vR d x :: st0) n h Q := by
  intro p l e R s m args below meth cc D dA A γ0 n0 γ H locs cells slots la hB hL hwl hws
  have hTs : Tx s := hB.2.2.1.1.1
  rw [List.map_cons, e_ref hx]
  refine W.objInit hB.1.1 hB.1.2.1 hB.1.2.2.2.2.2.1 (hTs.use hl args) (hTs.use hi args) (hTs.use hc args) rfl (by rw [hB.1.2.2.1]; exact hL.1) rfl hd (by have := hB.2.1.1; omega) ?_ (kk p l e R s m args below meth cc D dA A γ0 n0 γ H locs cells slots la hB hL hwl (fun u hu => hws u (by simp [hu])))
  have e : (st0.map (cV γ)).map (fun v => v.category) = st0.map (fun v => match v with | .inr (.inl _) => 2 | _ => 1) := by
    rw [List.map_map]
    exact List.map_congr_left fun v _ => cV_cat1 γ v
  have := hB.2.1.2.1
  show 2 * 0 + _ + 12 ≤ _
  rw [e]; omega
/-- athrow, where no handler is -/
theorem T_athrow {d : Nat} (hd : decode (mC k) pc = .ok (.athrow, 1)) (hno : mHd k = []) (hdc : d / 2 = 17) (hx : x ≠ 0) (hQ : Q (.inr x) n h) : T_at g k pc ls (vR d x :: st0) n h Q := by
  intro p l e R s m args below meth cc D dA A γ0 n0 γ H locs cells slots la hB hL hwl hws T hT X
  have hlk := hB.1.2.2.2.2.1
  have hf := wt_fit (hws (vR d x) List.mem_cons_self) hdc hx
  have hR3 := hB.2.1.2.2.1
  have hR4 := hB.2.1.2.2.2
  have hout : ∀ y ∈ cc.exceptionTable.toList, covers y pc = false := by
    intro y hy
    have hmem : (y.startPc, y.endPc, y.handlerPc, y.catchType) ∈ mHd k := by
      rw [← hB.1.2.2.2.2.2.2.2]; exact List.mem_map.mpr ⟨y, hy, rfl⟩
    rw [hno] at hmem; cases hmem
  obtain ⟨h1, h2, h3, h4, h5⟩ := X.athrowLeaves hB.1.1 (g := F0 m pc la ((vR d x :: st0).map (cV γ))) rfl rfl rfl hout (a := γ x) (rest := st0.map (cV γ)) (by rw [List.map_cons]; exact e_ref hx) (by rw [hB.1.2.1]; exact hd) hlk
  refine ⟨_, h1, .threw (γ x), h2, h3, .inr x, n, h, γ, locs, cells, slots, hQ, rfl, hf, hB.2.2.2.2.1, hB.2.2.2.2.2.1, by show Mx g D dA γ A n h T.heap; rw [hT]; exact hB.mx, h4, h5, hR3, hR4, hB.2.2.1.2.1.2.2, ?_⟩
  show s.heap.size ≤ T.heap.size ∧ ∀ q : Nat, q < s.heap.size → ¬ A q → T.heap[q]? = s.heap[q]?
  rw [hT]; exact ⟨hB.2.2.1.2.1.1, hB.2.2.1.2.1.2.1⟩
end
