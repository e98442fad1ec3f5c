set_option maxRecDepth 100000
/-- an argument, by its parameter's code -/
def rt1 (t : Nat) : V → Option V
  | .inl x => if t < 5 then some (vI x) else none
  | .inr (.inl x) => if t = 5 then some (vL x) else none
  | .inr (.inr (d, x)) => if t = 6 + d / 2 then some (vR (2 * (d / 2)) x) else none
def rtL : List Nat → List V → Option (List V)
  | [], [] => some []
  | t :: ts, v :: vs => match rt1 t v, rtL ts vs with
    | some w, some ws => some (w :: ws)
    | _, _ => none
  | _, _ => none
theorem rt1_ok {t : Nat} {v w : V} (h : rt1 t v = some w) : (∀ γ, cV γ w = cV γ v) ∧ ∀ (S : Shp) (n : Int), wtV S n v → wtV S n w := by
  rcases v with x | x | ⟨d, x⟩
  · simp only [rt1] at h; split at h <;> simp at h; subst h; exact ⟨fun _ => rfl, fun _ _ h => h⟩
  · simp only [rt1] at h; split at h <;> simp at h; subst h; exact ⟨fun _ => rfl, fun _ _ h => h⟩
  · simp only [rt1] at h; split at h <;> simp at h; subst h
    refine ⟨fun _ => rfl, fun S n h => ?_⟩
    have e : 2 * (d / 2) / 2 = d / 2 := by omega
    rcases h with h | h
    · exact Or.inl ⟨h.1, by omega⟩
    · exact Or.inr (by rw [e]; exact h)
theorem rtL_ok : ∀ {ts : List Nat} {vs ws : List V}, rtL ts vs = some ws → ws.length = vs.length ∧ (∀ γ, ws.map (cV γ) = vs.map (cV γ)) ∧ ∀ (S : Shp) (n : Int), (∀ v ∈ vs, wtV S n v) → ∀ v ∈ ws, wtV S n v
  | [], [], ws, h => by simp [rtL] at h; subst h; exact ⟨rfl, fun _ => rfl, fun _ _ h => h⟩
  | t :: ts, v :: vs, ws, h => by
    simp only [rtL] at h
    split at h
    · rename_i w ws' h1 h2
      simp at h; subst h
      obtain ⟨a1, a2⟩ := rt1_ok h1
      obtain ⟨b1, b2, b3⟩ := rtL_ok h2
      refine ⟨by simp [b1], fun γ => by simp [a1, b2], fun S n hv u hu => ?_⟩
      rcases List.mem_cons.mp hu with e | e
      · rw [e]; exact a2 S n (hv v List.mem_cons_self)
      · exact b3 S n (fun x hx => hv x (List.mem_cons_of_mem _ hx)) u e
    · simp at h
  | [], v :: vs, ws, h => by simp [rtL] at h
  | t :: ts, [], ws, h => by simp [rtL] at h
/-- what a call of method k' asks of the tables -/
def Lk0 (own : String) (idx k' nargs : Nat) : Prop := ((Cond.methodLink own idx (mY k')) ∈ lw_mv ∨ ∃ host, (Cond.methodLinkNest own idx (mY k') host) ∈ lw_mv) ∧ mW k' ∈ lw_mv ∧ (Cond.initialized (mY k').cls) ∈ lw_mv ∧
  ((mY k').cls ≠ "java/lang/invoke/MethodHandle" ∧ (mY k').cls ≠ "java/lang/invoke/VarHandle") ∧ (parseMethodDescriptor (mY k').desc).map (fun d => d.parameters.length) = some nargs
def LkV (own : String) (idx k' nargs c : Nat) : Prop := Lk0 own idx k' nargs ∧ (Cond.instanceMethod (mY k')) ∈ lw_mv ∧ (Cond.selects (clR c) (mY k') (mY k')) ∈ lw_mv
def LkS (own : String) (idx k' nargs : Nat) : Prop := Lk0 own idx k' nargs ∧ (Cond.static (mY k')) ∈ lw_mv
def LkI (own : String) (idx k' nargs : Nat) : Prop := Lk0 own idx k' nargs ∧ (Cond.instanceMethod (mY k')) ∈ lw_mv ∧ (mY k').name = "<init>" ∧ mRet k' = none ∧ mHd k' = []
/-- room for a call -/
def Rm (k k' : Nat) (rest : List V) : Prop := mFR k' + 1 ≤ mFR k ∧ (rest.map (fun v => match v with | .inr (.inl _) => 2 | _ => 1)).sum + (mL k' + 11) + mLO k' ≤ mLO k
def Hok (k : Nat) : Prop := ∀ x ∈ mHd k, x.2.2.2 ≠ 0 ∧ (Cond.classLink (mY k).cls x.2.2.2 "FontHouse$Fault") ∈ lw_mv
theorem Rm.words {k k' : Nat} {rest : List V} (h : Rm k k' rest) (γ : Int → Nat) : ((rest.map (cV γ)).map fun v => v.category).sum + (mL k' + 11) + mLO k' ≤ mLO k := by
  have e : (rest.map (cV γ)).map (fun v => v.category) = rest.map (fun v => match v with | .inr (.inl _) => 2 | _ => 1) := by
    rw [List.map_map]
    refine List.map_congr_left fun v _ => ?_
    exact cV_cat1 γ v
  rw [e]; exact h.2
theorem Mx.obj {g : G} {D : va_G} {dA : Nat → ClassId} {γ : Int → Nat} {A : Nat → Prop} {n : Int} {h : Mem} {H : Heap} (hM : Mx g D dA γ A n h H) {c : Nat} (hc : c < 18) {o : Int} (ho : rfit g.1 n c o) : SB ≤ o ∧ o < n ∧ (g.1 o).1 = c ∧ ∃ cell : Cell, H[γ o]? = some cell ∧ cell.cls = D.1 c ∧ cell.vm = .none ∧ (cell.monitor.owner = none ∧ cell.monitor.count = 0 ∧ ∀ j : Nat, j < (g.1 o).2 → D.2 c j < cell.slots.size) ∧ ∀ j : Nat, j < (g.1 o).2 → sk c j ≠ 99 → cell.slots[D.2 c j]? = some (cS γ (sk c j) (h o j)) := by
  obtain ⟨h1, h2, h3, h4, -⟩ := hM
  obtain ⟨q1, q2, q3⟩ := ho
  have q1 : 1 ≤ o := by omega
  rw [if_neg (by omega)] at q3
  have hSB : SB ≤ o := by
    rcases Int.lt_or_le o SB with hlt | hge
    · exfalso
      rw [h3 o hlt] at q3
      have : o = 1 ∨ o = 2 ∨ o = 3 ∨ o = 4 ∨ o = 5 ∨ o = 6 ∨ o = 7 ∨ o = 8 ∨ o = 9 ∨ o = 10 ∨ o = 11 ∨ o = 12 ∨ o = 13 ∨ o = 14 ∨ o = 15 ∨ o = 16 := by
        have : o < 17 := hlt
        omega
      rcases this with e | e | e | e | e | e | e | e | e | e | e | e | e | e | e | e <;> (subst e; simp [stS] at q3; omega)
    · exact hge
  have h5 := (h4 o hSB q2).1
  unfold Cl at h5
  rw [q3, if_pos (by omega)] at h5
  exact ⟨hSB, q2, q3, h5⟩
/-- invokevirtual -/
theorem T_invV {g : G} {k pc idx k' c : Nat} {ts : List Nat} {as0 as : List V} {d : Nat} {o : Int} {ls : Lcs} {rest : List V} {n : Int} {h : Mem} {Q : Out → Int → Mem → Prop}
    (hd : decode (mC k) pc = .ok (.invokevirtual idx, 3)) (hlk : LkV (mY k).cls idx k' as0.length c) (hok : Hok k) (hrm : Rm k k' rest) (hc : c < 18) (hdc : d / 2 = c) (ho : o ≠ 0) (hrt : rtL ts as0 = some as)
    (kk : T g k' (vR (2 * c + 1) o :: as) n h (Kn g k pc ls rest Q)) : T_at g k pc ls (as0.reverse ++ vR d o :: rest) n h Q := by
  intro p l e R s m args below meth cc D dA A γ0 n0 γ H locs cells slots la hB hL hwl hws T hT X
  obtain ⟨⟨hlink, hcw, hini, hy, hlen⟩, hinst, hsel⟩ := hlk
  obtain ⟨hx, hb, hml, hr, hlk, hown, hnm, hex⟩ := hB.1
  have hM : Mx g D dA γ A n h H := hB.2.2.2.2.2.2
  have hTs : Tx s := hB.2.2.1.1.1
  have hKs : Kx D dA s := hB.2.2.1.1.2.1
  obtain ⟨r1, r2, r3⟩ := rtL_ok hrt
  have hwo : wtV g.1 n (vR d o) := hws _ (by simp)
  have hfit : rfit g.1 n c o := by
    rcases hwo with q | q
    · exact absurd q.1 ho
    · rw [← hdc]; exact q
  obtain ⟨hSB, hon, hok1, cellB, hcell, hcls, hvm, -⟩ := hM.obj hc hfit
  have hclass : s.vm.findClass (clR c) = some cellB.cls := by rw [hcls]; exact (hKs.1.1 c _ (vwCl_at hc)).2.1
  have hwa : ∀ v ∈ (vR (2 * c + 1) o :: as), wtV g.1 n v := by
    intro v hv
    rcases List.mem_cons.mp hv with e | e
    · rw [e]; exact Or.inr (by have : (2 * c + 1) / 2 = c := by omega
                               rw [this]; exact hfit)
    · exact r3 g.1 n (fun w hw => hws w (by simp [hw])) v e
  have hwr : ∀ v ∈ rest, wtV g.1 n v := fun v hv => hws v (by simp [hv])
  have hstk : (F0 m pc la ((as0.reverse ++ vR d o :: rest).map (cV γ))).stack = (as.map (cV γ)).reverse ++ .ref (γ o) :: rest.map (cV γ) := by
    show (as0.reverse ++ vR d o :: rest).map (cV γ) = _
    rw [List.map_append, List.map_cons, List.map_reverse, ← r2 γ]
    show _ ++ cR γ o :: _ = _
    unfold cR; rw [if_neg ho]
  have hlen' : ∀ sig, parseMethodDescriptor (mY k').desc = some sig → (as.map (cV γ)).length = sig.parameters.length := fun sig hs => by
    rw [hs] at hlen; simp at hlen; rw [List.length_map, r1, hlen]
  obtain ⟨mk, methM, hnamed, hmethM, hstM, habM⟩ := Cond.instanceMethod_spec (hTs.use hinst args)
  obtain ⟨m9, methM', cM, hn9, hmethM', -, -, -, -, -, -, hsigM⟩ := mW_spec (hTs.use hcw args)
  cases hnamed.symm.trans hn9
  cases hmethM.symm.trans hmethM'
  obtain ⟨c2, r2', m2, q1, q2, q3, q4, kP, hkP, hkPi⟩ := Cond.selects_spec (hTs.use hsel args)
  cases hclass.symm.trans q1
  cases (State.methodFound?_of_named hnamed hy).symm.trans q2
  cases hnamed.symm.trans q3
  have hselP : selectMethod e.platform s.vm cellB.cls mk = .method mk := by rw [Launch.admits_selectMethod X.admits]; exact q4
  have hobj : ∀ z, cellB.vm ≠ .statics z := fun z h => by rw [hvm] at h; cases h
  have hstep : ∃ vm₁, Stand p l.1 e R s m args below meth cc (T.setVm vm₁) locs cells slots ∧ ∀ tg, (∀ acts, Steps p.tables e below (doInvoke e ((T.setVm vm₁).setTop (F0 m pc la (rest.map (cV γ)))) acts mk ((vR (2 * c + 1) o :: as).map (cV γ)).toArray).1 tg) → Steps p.tables e below (T.setTop (F0 m pc la ((as0.reverse ++ vR d o :: rest).map (cV γ)))) tg := by
    have e1 : ((vR (2 * c + 1) o :: as).map (cV γ)).toArray = (Value.ref (γ o) :: as.map (cV γ)).toArray := by
      rw [List.map_cons]; show (cR γ o :: _).toArray = _; unfold cR; rw [if_neg ho]
    rw [e1]
    rcases hlink with hl | ⟨host, hl⟩
    · exact X.invokevirtual hx hown (hTs.use hl args) hnamed hmethM hstM hkP hkPi hy (a := γ o) (cell := cellB) (by rw [hT]; exact hcell) hobj hselP hmethM habM hkP hkPi (g := F0 m pc la ((as0.reverse ++ vR d o :: rest).map (cV γ))) rfl (argsL := as.map (cV γ)) (rest := rest.map (cV γ)) (hlen' _ hsigM) hstk (by rw [hb]; exact hd)
    · exact X.invokevirtualNest hx hown (hTs.use hl args) hnamed hmethM hstM hkP hkPi hy (a := γ o) (cell := cellB) (by rw [hT]; exact hcell) hobj hselP hmethM habM hkP hkPi (g := F0 m pc la ((as0.reverse ++ vR d o :: rest).map (cV γ))) rfl (argsL := as.map (cV γ)) (rest := rest.map (cV γ)) (hlen' _ hsigM) hstk (by rw [hb]; exact hd)
  obtain ⟨vm₁, X₁, hst⟩ := hstep
  obtain ⟨t, h1, h2⟩ := T_fin kk hB hL hwl hwr hwa (U := T.setVm vm₁) hT X₁ (X₁.named hnamed) hd hcw hini hrm.1 (hrm.words γ) hok
  exact ⟨t, hst t (fun acts => by rw [doInvoke_state]; exact h1), h2⟩
/-- invokestatic -/
theorem T_invS {g : G} {k pc idx k' : Nat} {ts : List Nat} {as0 as : List V} {ls : Lcs} {rest : List V} {n : Int} {h : Mem} {Q : Out → Int → Mem → Prop}
    (hd : decode (mC k) pc = .ok (.invokestatic idx, 3)) (hlk : LkS (mY k).cls idx k' as0.length) (hok : Hok k) (hrm : Rm k k' rest) (hrt : rtL ts as0 = some as)
    (kk : T g k' as n h (Kn g k pc ls rest Q)) : T_at g k pc ls (as0.reverse ++ rest) n h Q := by
  intro p l e R s m args below meth cc D dA A γ0 n0 γ H locs cells slots la hB hL hwl hws T hT X
  obtain ⟨⟨hlink, hcw, hini, hy, hlen⟩, hstat⟩ := hlk
  obtain ⟨hx, hb, hml, hr, hlk, hown, hnm, hex⟩ := hB.1
  have hTs : Tx s := hB.2.2.1.1.1
  obtain ⟨r1, r2, r3⟩ := rtL_ok hrt
  have hwa : ∀ v ∈ as, wtV g.1 n v := r3 g.1 n (fun w hw => hws w (by simp [hw]))
  have hwr : ∀ v ∈ rest, wtV g.1 n v := fun v hv => hws v (by simp [hv])
  have hstk : (F0 m pc la ((as0.reverse ++ rest).map (cV γ))).stack = (as.map (cV γ)).reverse ++ rest.map (cV γ) := by
    show (as0.reverse ++ rest).map (cV γ) = _
    rw [List.map_append, List.map_reverse, ← r2 γ]
  have hlen' : ∀ sig, parseMethodDescriptor (mY k').desc = some sig → (as.map (cV γ)).length = sig.parameters.length := fun sig hs => by
    rw [hs] at hlen; simp at hlen; rw [List.length_map, r1, hlen]
  obtain ⟨mk, methM, cM, hnamed, hmethM, -, -, -, -, -, -, hsigM⟩ := mW_spec (hTs.use hcw args)
  have hstatic : methM.isStatic = true := Cond.static_spec hnamed hmethM (hTs.use hstat args)
  obtain ⟨kP, hkP, -⟩ := className_of_methodNamed hnamed
  have hinitP : kP.init = .initialized := Cond.initialized_spec (findClass_of_methodNamed hnamed) hkP (hTs.use hini args)
  have hstep : ∃ vm₁, Stand p l.1 e R s m args below meth cc (T.setVm vm₁) locs cells slots ∧ ∀ tg, (∀ acts, Steps p.tables e below (doInvoke e ((T.setVm vm₁).setTop (F0 m pc la (rest.map (cV γ)))) acts mk (as.map (cV γ)).toArray).1 tg) → Steps p.tables e below (T.setTop (F0 m pc la ((as0.reverse ++ rest).map (cV γ)))) tg := by
    rcases hlink with hl | ⟨host, hl⟩
    · exact X.invokestatic hx hown (hTs.use hl args) hnamed hmethM hstatic hkP hinitP hy (g := F0 m pc la ((as0.reverse ++ rest).map (cV γ))) rfl (argsL := as.map (cV γ)) (rest := rest.map (cV γ)) (hlen' _ hsigM) hstk (by rw [hb]; exact hd)
    · exact X.invokestaticNest hx hown (hTs.use hl args) hnamed hmethM hstatic hkP hinitP hy (g := F0 m pc la ((as0.reverse ++ rest).map (cV γ))) rfl (argsL := as.map (cV γ)) (rest := rest.map (cV γ)) (hlen' _ hsigM) hstk (by rw [hb]; exact hd)
  obtain ⟨vm₁, X₁, hst⟩ := hstep
  obtain ⟨t, h1, h2⟩ := T_fin kk hB hL hwl hwr hwa (U := T.setVm vm₁) hT X₁ (X₁.named hnamed) hd hcw hini hrm.1 (hrm.words γ) hok
  exact ⟨t, hst t (fun acts => by rw [doInvoke_state]; exact h1), h2⟩
/-- invokespecial of a constructor -/
theorem T_invI {g : G} {k pc idx k' c : Nat} {ts : List Nat} {as0 as : List V} {d : Nat} {o : Int} {ls : Lcs} {rest : List V} {n : Int} {h : Mem} {Q : Out → Int → Mem → Prop}
    (hd : decode (mC k) pc = .ok (.invokespecial idx, 3)) (hlk : LkI (mY k).cls idx k' as0.length) (hok : Hok k) (hrm : Rm k k' rest) (hc : c < 18) (hdc : d / 2 = c) (ho : o ≠ 0) (hrt : rtL ts as0 = some as)
    (kk : T g k' (vR (2 * c + 1) o :: as) n h (Kn g k pc ls rest Q)) : T_at g k pc ls (as0.reverse ++ vR d o :: rest) n h Q := by
  intro p l e R s m args below meth cc D dA A γ0 n0 γ H locs cells slots la hB hL hwl hws T hT X
  obtain ⟨⟨hlink, hcw, hini, hy, hlen⟩, hinst, hname, hret, hhd⟩ := hlk
  obtain ⟨hx, hb, hml, hr, hlk, hown, hnm, hex⟩ := hB.1
  have hTs : Tx s := hB.2.2.1.1.1
  obtain ⟨r1, r2, r3⟩ := rtL_ok hrt
  have hwo : wtV g.1 n (vR d o) := hws _ (by simp)
  have hfit : rfit g.1 n c o := by
    rcases hwo with q | q
    · exact absurd q.1 ho
    · rw [← hdc]; exact q
  have hwa : ∀ v ∈ (vR (2 * c + 1) o :: as), wtV g.1 n v := by
    intro v hv
    rcases List.mem_cons.mp hv with e | e
    · rw [e]; exact Or.inr (by have : (2 * c + 1) / 2 = c := by omega
                               rw [this]; exact hfit)
    · exact r3 g.1 n (fun w hw => hws w (by simp [hw])) v e
  have hwr : ∀ v ∈ rest, wtV g.1 n v := fun v hv => hws v (by simp [hv])
  have hstk : (F0 m pc la ((as0.reverse ++ vR d o :: rest).map (cV γ))).stack = (as.map (cV γ)).reverse ++ .ref (γ o) :: rest.map (cV γ) := by
    show (as0.reverse ++ vR d o :: rest).map (cV γ) = _
    rw [List.map_append, List.map_cons, List.map_reverse, ← r2 γ]
    show _ ++ cR γ o :: _ = _
    unfold cR; rw [if_neg ho]
  have hlen' : ∀ sig, parseMethodDescriptor (mY k').desc = some sig → (as.map (cV γ)).length = sig.parameters.length := fun sig hs => by
    rw [hs] at hlen; simp at hlen; rw [List.length_map, r1, hlen]
  have hcode : (Cond.code (mY k') (mC k') (mL k') none).before args s = true := by
    have := hTs.use hcw args
    unfold mW at this
    rw [hhd, hret] at this
    exact this
  have hpl : e.platform.magicAccessors = ({} : Platform).magicAccessors := by rw [X.admits.platform]
  have hstep : ∃ (mk : MethodId) (vm₁ : Vm), s.methodNamed? (mY k') = some mk ∧ s.WarmedH vm₁ ∧ ∀ tg, (∀ acts, Steps p.tables e below (doInvoke e ((T.setVm vm₁).setTop (F0 m pc la (rest.map (cV γ)))) acts mk ((vR (2 * c + 1) o :: as).map (cV γ)).toArray).1 tg) → Steps p.tables e below (T.setTop (F0 m pc la ((as0.reverse ++ vR d o :: rest).map (cV γ)))) tg := by
    have e1 : ((vR (2 * c + 1) o :: as).map (cV γ)).toArray = (Value.ref (γ o) :: as.map (cV γ)).toArray := by
      rw [List.map_cons]; show (cR γ o :: _).toArray = _; unfold cR; rw [if_neg ho]
    rw [e1]
    rcases hlink with hl | ⟨host, hl⟩
    · obtain ⟨mk, methM, cM, kP, vm₁, hnamed, hmethM, hcodeM, -, hlocalsM, -, hkP, -, hW₁, hstep₁⟩ := Steps.initColdArgs (e := e) X.here hx X.warmed hpl hown hname hy (hTs.use hl args) (hTs.use hinst args) hcode (f := F0 m pc la ((as0.reverse ++ vR d o :: rest).map (cV γ))) rfl hlen' hstk (by rw [hb]; exact hd)
      exact ⟨mk, vm₁, hnamed, hW₁, hstep₁⟩
    · obtain ⟨mk, methM, cM, kP, vm₁, hnamed, hmethM, hcodeM, -, hlocalsM, -, hkP, -, hW₁, hstep₁⟩ := Steps.initColdArgsNest (e := e) X.here hx X.warmed hpl hown hname hy (hTs.use hl args) (hTs.use hinst args) hcode (f := F0 m pc la ((as0.reverse ++ vR d o :: rest).map (cV γ))) rfl hlen' hstk (by rw [hb]; exact hd)
      exact ⟨mk, vm₁, hnamed, hW₁, hstep₁⟩
  obtain ⟨mk, vm₁, hnamed, hW₁, hst⟩ := hstep
  have X₁ := X.noted hW₁
  obtain ⟨t, h1, h2⟩ := T_fin kk hB hL hwl hwr hwa (U := T.setVm vm₁) hT X₁ (X₁.named hnamed) hd hcw hini hrm.1 (hrm.words γ) hok
  exact ⟨t, hst t (fun acts => by rw [doInvoke_state]; exact h1), h2⟩
