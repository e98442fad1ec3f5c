set_option maxRecDepth 100000
/-- what Exception's constructor asks of the tables -/
def excAtoms (own : String) (ic : Nat) : List Cond := Bundle.throwableAtoms ++ Bundle.chain0Atoms "java/lang/Exception" [] ++
  [.methodLink own ic (Bundle.init0 "java/lang/Exception"), .selects "FontHouse$Fault" Bundle.tFill0 Bundle.tFill0, .selects "FontHouse$Fault" Bundle.tFill Bundle.tFill,
   .lays "FontHouse$Fault" Bundle.tN "cause" "Ljava/lang/Throwable;", .lays "FontHouse$Fault" Bundle.tN "stackTrace" Bundle.steD, .lays "FontHouse$Fault" Bundle.tN "suppressedExceptions" Bundle.listD,
   .fieldLink Bundle.tN 198 Bundle.tN "backtrace" "Ljava/lang/Object;", .lays Bundle.tN Bundle.tN "backtrace" "Ljava/lang/Object;", .lays "FontHouse$Fault" Bundle.tN "backtrace" "Ljava/lang/Object;"]
section
variable {g : G} {k pc : Nat} {ls : Lcs} {rest : List V} {n : Int} {h : Mem} {Q : Out → Int → Mem → Prop} {o : Int}
/-- the constructor of Exception -/
theorem T_exc {idx d : Nat} (hG : Gok g) (hd : decode (mC k) pc = .ok (.invokespecial idx, 3)) (hat : ∀ w ∈ excAtoms (mY k).cls idx, w ∈ lw_mv ∨ w = Cond.laysStatic "java/lang/Throwable" "UNASSIGNED_STACK" "[Ljava/lang/StackTraceElement;" ∨ w = Cond.laysStatic "java/lang/Throwable" "SUPPRESSED_SENTINEL" "Ljava/util/List;") (hfr : 4 ≤ mFR k) (hlo : (rest.map (fun v => match v with | .inr (.inl _) => 2 | _ => 1)).sum + 54 ≤ mLO k) (hdc : d / 2 = 17) (ho : o ≠ 0) (h4 : h o 4 = 0)
    (kk : T_at g k (pc + 3) ls rest n h Q) : T_at g k pc ls (vR d o :: rest) n h Q := by
  intro p l e R s m args below meth cc D dA A γ0 n0 γ H locs cells slots la hB hL hwl hws T hT X
  obtain ⟨hx, hb, hml, hr, hlk, hown, hnm, hex⟩ := hB.1
  have hM := hB.mx
  have hTs : Tx s := hB.2.2.1.1.1
  have hKs : Kx D dA s := hB.2.2.1.1.2.1
  have hZ := hB.2.2.1.1.2.2.1
  have hS : va_S A s.heap H locs := hB.2.2.1.2.1
  have hfit := wt_fit (hws (vR d o) (by simp)) hdc ho
  have hN := obj_N hG (by omega : 17 < 18) hM hfit
  have hN8 : (g.1 o).2 = 8 := hN
  obtain ⟨h1, h2, h3, cell, q1, q2, q3, q5, q4⟩ := hM.obj (by omega : 17 < 18) hfit
  obtain ⟨hSl, hfc, kC, hkC, hord⟩ := hKs.1.1 17 _ (vwCl_at (by omega))
  have hfc : s.vm.findClass "FontHouse$Fault" = some (D.1 17) := hfc
  have howns : e.platform.frameOwnsMonitors = true := by rw [X.admits.platform]
  have hfin : e.platform.finalization = false := by rw [X.admits.platform]
  have hpl : e.platform.magicAccessors = ({} : Platform).magicAccessors := by rw [X.admits.platform]
  have a' : ∀ x, x ∈ excAtoms (mY k).cls idx → x.holds args s none s [] = true := fun x hx => by
    rcases hat x hx with q | q | q
    · exact hTs.use q args
    · rw [q]; exact hZ.2.1.lays args
    · rw [q]; exact hZ.2.2.1.lays args
  obtain ⟨Tt, Z, L, LZ, Y⟩ := ThrowableC.of_atoms (args := args) howns hfin hpl (fun x hx => a' x (by simp [excAtoms, hx]))
  obtain ⟨P1, Ps, hlen, L1, hL', hP1m, hlink1, hlink⟩ := Bundle.chain0 (args := args) hpl Y.init0 [] "java/lang/Exception" (by decide) (by simp) (fun x hx => a' x (by simp only [excAtoms, List.mem_append]; exact Or.inl (Or.inr hx)))
  have hPs : Ps = [] := List.length_eq_zero_iff.mp hlen
  subst hPs
  have hsel0 : selectMethod e.platform s.vm cell.cls Tt.fill0 = .method Tt.fill0 := by
    obtain ⟨c2, r2, m2, z1, z2, z3, z4, -⟩ := Cond.selects_spec (a' (.selects "FontHouse$Fault" Bundle.tFill0 Bundle.tFill0) (by simp [excAtoms]))
    cases Option.some.inj (z1.symm.trans hfc)
    cases Option.some.inj (z2.symm.trans (State.methodFound?_of_named Y.fill0 (by decide)))
    cases Option.some.inj (z3.symm.trans Y.fill0)
    rw [Launch.admits_selectMethod X.admits, q2]; exact z4
  have hselF : selectMethod e.platform s.vm cell.cls Tt.fill = .method Tt.fill := by
    obtain ⟨c2, r2, m2, z1, z2, z3, z4, -⟩ := Cond.selects_spec (a' (.selects "FontHouse$Fault" Bundle.tFill Bundle.tFill) (by simp [excAtoms]))
    cases Option.some.inj (z1.symm.trans hfc)
    cases Option.some.inj (z2.symm.trans (State.methodFound?_of_named Y.fill (by decide)))
    cases Option.some.inj (z3.symm.trans Y.fill)
    rw [Launch.admits_selectMethod X.admits, q2]; exact z4
  obtain ⟨cellS, hcS0, hiss⟩ := Y.statics
  have rfV : ∀ {nm ds : String} {i : Nat} {f : Field}, Yz "java/lang/Throwable" nm ds A s s.heap → s.fieldFound? "java/lang/Throwable" nm ds = some (Tt.cT, Tt.kT, i, f) → (∃ u : RefV, cellS.slots[f.slot]? = some u.v) ∧ ¬ A Tt.aS := by
    intro nm ds i f ⟨cf, kf, fi, f', a, c1, v, z0, z1, z2, z4, z5, z6, y1, y2, y3, z7, hv, z8⟩ hf
    have e1 := Option.some.inj (z1.symm.trans hf)
    simp only [Prod.mk.injEq] at e1
    obtain ⟨e1, e2, e3, e4⟩ := e1
    subst e2 e4
    have e5 : a = Tt.aS := Option.some.inj (z4.symm.trans L.statics)
    subst e5
    have e6 : c1 = cellS := Option.some.inj (z5.symm.trans hcS0)
    subst e6
    exact ⟨⟨⟨v, hv⟩, z7⟩, z8⟩
  obtain ⟨⟨u0, hu0⟩, hnA⟩ := rfV hZ.2.1 Y.unassigned
  obtain ⟨⟨sen, hsen⟩, -⟩ := rfV hZ.2.2.1 Y.sentinel
  have hlt0 : Tt.aS < s.heap.size := (Array.getElem?_eq_some_iff.mp hcS0).1
  have hcellS : T.heap[Tt.aS]? = some cellS := by rw [hT, hS.2.1 _ hlt0 hnA]; exact hcS0
  have hAo : A (γ o) := (hM.2.2.2.1 o h1 h2).2.1
  have hneS : Tt.aS ≠ γ o := fun e => hnA (by rw [e]; exact hAo)
  have hknownS : cellS.vm ≠ .unknown := by
    intro hu
    rw [hu] at hiss
    cases hiss
  obtain ⟨ci198, i198, fB, hk198, hg198, ha198, hsB, -, hnB, htB, hffB⟩ := Cond.ownField (t := .object "java/lang/Object") Y.found L.cls (by decide +kernel) (a' (.fieldLink Bundle.tN 198 Bundle.tN "backtrace" "Ljava/lang/Object;") (by simp [excAtoms])) (a' (.lays Bundle.tN Bundle.tN "backtrace" "Ljava/lang/Object;") (by simp [excAtoms])) e.platform hpl
  obtain ⟨tyC, dC, hdC, hdnC⟩ := Cond.laysAt hfc hkC Y.cause (a' (.lays "FontHouse$Fault" Bundle.tN "cause" "Ljava/lang/Throwable;") (by simp [excAtoms]))
  obtain ⟨tyS, dS, hdS, hdnS⟩ := Cond.laysAt hfc hkC Y.stack (a' (.lays "FontHouse$Fault" Bundle.tN "stackTrace" Bundle.steD) (by simp [excAtoms]))
  obtain ⟨tyP, dP, hdP, hdnP⟩ := Cond.laysAt hfc hkC Y.supp (a' (.lays "FontHouse$Fault" Bundle.tN "suppressedExceptions" Bundle.listD) (by simp [excAtoms]))
  obtain ⟨tyB, dB, hdB, hdnB⟩ := Cond.laysAt hfc hkC hffB (a' (.lays "FontHouse$Fault" Bundle.tN "backtrace" "Ljava/lang/Object;") (by simp [excAtoms]))
  have slo : ∀ {j : Nat} {x : ClassId × Class × Nat × Field}, j < 8 → s.fieldFound? (clT 17 j).1 (clT 17 j).2.1 (clT 17 j).2.2.1 = some x → x.2.2.2.slot = D.2 17 j := by
    intro j x hj hf
    obtain ⟨cf, kf, fi, f, hi, hsl⟩ := hSl j hj
    have := Option.some.inj (hf.symm.trans hi)
    rw [this]; exact hsl
  have sC : Tt.fCause.slot = D.2 17 0 := slo (j := 0) (by omega) Y.cause
  have sS : Tt.fStack.slot = D.2 17 1 := slo (j := 1) (by omega) Y.stack
  have sP : Tt.fSupp.slot = D.2 17 2 := slo (j := 2) (by omega) Y.supp
  have sB : fB.slot = D.2 17 4 := slo (j := 4) (by omega) hffB
  have hts := hTs.all args
  have hap := va_apart (own := "") hts (cl_in 17 (by omega)) (clTy 17) (cl_ty 17 (by omega)) (cl_nm 17 (by omega)) hKs.1 (vwCl_at (by omega))
  have hap' : ∀ i j : Nat, i < 8 → j < 8 → i ≠ j → D.2 17 i ≠ D.2 17 j := fun i j a b c => hap i j a b c
  have tk : ∀ {f : Field} {v : Value} {j : Nat}, j < 8 → f.slot = D.2 17 j → kC.instanceTypes[f.slot]? = some f.type → fits f.type v = true → Takes s cell f v := by
    intro f v j hj hs hty hv
    refine ⟨by rw [hs]; exact q5.2.2 j (by omega), ?_⟩
    simp [State.fitsSlot, State.slotType?, q2, q3, hkC, hord, hty, hv]
  have hnull : cell.slots[fB.slot]? = some .null := by
    have := q4 4 (by omega) (by decide)
    rw [sB, this]
    have e43 : sk 17 4 = 43 := by decide
    rw [e43, show h o ((4 : Nat) : Int) = 0 from h4]
    rfl
  have n1 : fB.slot ≠ Tt.fCause.slot := by rw [sB, sC]; exact hap' 4 0 (by omega) (by omega) (by omega)
  have n2 : fB.slot ≠ Tt.fStack.slot := by rw [sB, sS]; exact hap' 4 1 (by omega) (by omega) (by omega)
  have n3 : fB.slot ≠ Tt.fSupp.slot := by rw [sB, sP]; exact hap' 4 2 (by omega) (by omega) (by omega)
  have hskip : SkipFacts Tt e.platform s (fun u => u) u0 ((preparedCellV Tt.toThrowableT cell (γ o) u0 sen).withEntry T.cur) :=
    ⟨{ ci198 := ci198, i198 := i198, fBack := fB }, ⟨hk198, hg198, ha198, hsB⟩, by
      simpa [preparedCellV, Cell.setSlot, Cell.withEntry, Array.getElem?_setIfInBounds, n1, n2, n3, n1.symm, n2.symm, n3.symm] using hnull, fun _ _ => rfl⟩
  have e1 : (vR d o :: rest).map (cV γ) = .ref (γ o) :: rest.map (cV γ) := by rw [List.map_cons]; show cR γ o :: _ = _; unfold cR; rw [if_neg ho]
  rw [e1]
  obtain ⟨tm, methC, cdC, kCx, vm₁, hnC, -, -, -, -, -, -, -, hW₁, st1⟩ := Steps.initCold (tb := p.tables) (e := e) (below := below) (s := s) (U := T) X.here hx X.warmed hpl hown (t := Bundle.init0 "java/lang/Exception") rfl rfl (by decide)
    (a' (.methodLink (mY k).cls idx (Bundle.init0 "java/lang/Exception")) (by simp [excAtoms])) (a' (.instanceMethod (Bundle.init0 "java/lang/Exception")) (by simp [excAtoms, Bundle.chain0Atoms, Bundle.passAtoms])) (bytes := Bundle.five) (maxL := 1) (a' (.code (Bundle.init0 "java/lang/Exception") Bundle.five 1 none) (by simp [excAtoms, Bundle.chain0Atoms, Bundle.passAtoms]))
    (f := F0 m pc la (.ref (γ o) :: rest.map (cV γ))) rfl (a := γ o) (rest := rest.map (cV γ)) rfl (by rw [hb]; exact hd)
  cases Option.some.inj (hnC.symm.trans hP1m)
  have X₁ := X.noted hW₁
  have hcat : ((rest.map (cV γ)).map fun v => v.category).sum + 54 ≤ mLO k := by
    have e : (rest.map (cV γ)).map (fun v => v.category) = rest.map (fun v => match v with | .inr (.inl _) => 2 | _ => 1) := by
      rw [List.map_map]
      exact List.map_congr_left fun v _ => cV_cat1 γ v
    rw [e]; exact hlo
  obtain ⟨vm₂, X₂, st2⟩ := X₁.ctorPlainOffV hx (g := F0 m pc la (rest.map (cV γ))) rfl (by rw [hml]; exact hL.1) Tt L Z LZ [P1]
    (fun P hP => by rw [List.mem_singleton.mp hP]; exact L1) ⟨hlink1, hlink⟩ (u0 := u0) (sen := sen) (self := γ o) (cell := cell) (cellS := cellS)
    (by show T.heap[γ o]? = some cell; rw [hT]; exact q1) (fun z hz => by rw [q3] at hz; cases hz) (fun hz => by rw [q3] at hz; cases hz) q5.1 q5.2.1 hsel0 hselF hcellS hneS hknownS hu0 hsen
    (tk (j := 0) (by omega) sC tyC (by rw [Y.causeType]; rfl)) (tk (j := 1) (by omega) sS tyS (by rw [Y.stackType]; exact fits_refV_array _ u0)) (tk (j := 2) (by omega) sP tyP (by rw [Y.suppType]; exact fits_refV_object _ sen)) Y.objLocals hskip (l.2 e X.admits) [] (by rw [hb]; exact hd)
    (by have := hB.2.1.1; simp only [List.length_cons, List.length_nil]; omega) (by have := hB.2.1.2.1; show 2 * 0 + ((rest.map (cV γ)).map fun v => v.category).sum + (13 * 1 + 41) ≤ R.locals; omega)
  -- the heap behind it
  have hlt : γ o < H.size := (Array.getElem?_eq_some_iff.mp q1).1
  have hc2 : ∀ i : Nat, i < 8 → sk 17 i ≠ 99 → i ≠ 0 ∧ i ≠ 1 ∧ i ≠ 2 := by decide
  have hM' : Mx g D dA γ A n h (H.setIfInBounds (γ o) ((preparedCellV Tt.toThrowableT cell (γ o) u0 sen).setSlot Tt.fStack.slot u0.v)) := by
    refine hM.upd h1 h2 ?_ (by simp) (fun q hq => by rw [Array.getElem?_setIfInBounds, if_neg (fun e => hq e.symm)]) (fun _ _ _ => rfl) (fun j hj hne => hM.2.2.2.2.2.1 o h1 h2 j hj hne) (fun j v hv => hM.2.2.2.2.2.2 o j v h1 h2 hv)
    unfold Cl
    rw [h3, if_pos (by omega)]
    refine ⟨_, by rw [Array.getElem?_setIfInBounds, if_pos rfl, if_pos hlt], by simpa [preparedCellV, Cell.setSlot] using q2, by simpa [preparedCellV, Cell.setSlot] using q3, ⟨by simpa [preparedCellV, Cell.setSlot] using q5.1, by simpa [preparedCellV, Cell.setSlot] using q5.2.1, fun j hj => by simpa [preparedCellV, Cell.setSlot] using q5.2.2 j hj⟩, fun j hj hne => ?_⟩
    obtain ⟨z0, z1, z2⟩ := hc2 j (by omega) hne
    have m1 : Tt.fCause.slot ≠ D.2 17 j := by rw [sC]; exact hap' 0 j (by omega) (by omega) (fun e => z0 e.symm)
    have m2 : Tt.fStack.slot ≠ D.2 17 j := by rw [sS]; exact hap' 1 j (by omega) (by omega) (fun e => z1 e.symm)
    have m3 : Tt.fSupp.slot ≠ D.2 17 j := by rw [sP]; exact hap' 2 j (by omega) (by omega) (fun e => z2 e.symm)
    have := q4 j hj hne
    simpa [preparedCellV, Cell.setSlot, Array.getElem?_setIfInBounds, m1, m2, m3] using this
  have hS' : va_S A s.heap (H.setIfInBounds (γ o) ((preparedCellV Tt.toThrowableT cell (γ o) u0 sen).setSlot Tt.fStack.slot u0.v)) (locs ++ [⟨γ o, Tt.fCause.slot⟩, ⟨γ o, Tt.fStack.slot⟩, ⟨γ o, Tt.fSupp.slot⟩, ⟨γ o, Tt.fStack.slot⟩]) :=
    va_S.app hS (by simp) (fun q _ hq => by rw [Array.getElem?_setIfInBounds, if_neg (fun e => hq (by rw [← e]; exact hAo))]) (fun q hq => by
      simp only [List.mem_cons, List.not_mem_nil, or_false] at hq
      rcases hq with e | e | e | e <;> (rw [e]; exact hAo))
  obtain ⟨t, w1, w2⟩ := kk p l e R s m args below meth cc D dA A γ0 n0 γ (H.setIfInBounds (γ o) ((preparedCellV Tt.toThrowableT cell (γ o) u0 sen).setSlot Tt.fStack.slot u0.v)) (locs ++ [⟨γ o, Tt.fCause.slot⟩, ⟨γ o, Tt.fStack.slot⟩, ⟨γ o, Tt.fSupp.slot⟩, ⟨γ o, Tt.fStack.slot⟩]) cells slots la
    ⟨hB.1, hB.2.1, ⟨hB.2.2.1.1, hS', hB.2.2.1.2.2⟩, hB.2.2.2.1, hB.2.2.2.2.1, hB.2.2.2.2.2.1, hM'⟩ hL hwl (fun u hu => hws u (by simp [hu])) _ (by show T.heap.setIfInBounds _ _ = _; rw [hT]) X₂
  exact ⟨t, st1 _ (fun acts => by rw [doInvoke_state]; exact st2 _ w1), w2⟩
end
