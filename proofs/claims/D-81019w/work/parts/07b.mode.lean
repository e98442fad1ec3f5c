set_option maxRecDepth 100000
/-- invokevirtual of a method that the class of a static's object has by itself -/
theorem T_invM {g : G} {k pc idx k' c : Nat} {x9 : MethodName} {ts : List Nat} {as0 as : List V} {d : Nat} {o : Int} {ls : Lcs} {rest : List V} {n : Int} {h : Mem} {Q : Out → Int → Mem → Prop}
    (hd : decode (mC k) pc = .ok (.invokevirtual idx, 3)) (hl1 : (Cond.methodLink (mY k).cls idx x9) ∈ lw_mv) (hl2 : (Cond.sameMethod x9.cls x9.cls x9.name x9.desc) ∈ lw_mv) (hl3 : (Cond.declares x9) ∈ lw_mv) (hl4 : (Cond.selects (moN c) x9 (mY k')) ∈ lw_mv) (hl5 : (Cond.instanceMethod (mY k')) ∈ lw_mv) (hcw : mW k' ∈ lw_mv)
    (hyy : x9.cls ≠ "java/lang/invoke/MethodHandle" ∧ x9.cls ≠ "java/lang/invoke/VarHandle") (hlen : (parseMethodDescriptor x9.desc).map (fun d => d.parameters.length) = some as0.length) (hok : Hok k) (hrm : Rm k k' rest) (hc : 30 ≤ c ∧ c < 39) (hc9 : (30 ≤ c ∧ c < 34) ∨ c = 38) (ho : 1 ≤ o ∧ o < SB) (hs : (stS o).1 = c) (hy : plainName (mY k').cls = true) (hrt : rtL ts as0 = some as) (hle : (entL (vR (2 * c + 1) o :: as)).length ≤ mL k')
    (kk : T_at g k' 0 (entL (vR (2 * c + 1) o :: as) ++ List.replicate (mL k' - (entL (vR (2 * c + 1) o :: as)).length) none) [] n h (Kn g k pc ls rest Q)) : T_at g k pc ls (as0.reverse ++ vR d o :: rest) n h Q := by
  intro p l e R s m args below meth cc D dA A γ0 n0 γ H locs cells slots la hB hL hwl hws T hT X
  obtain ⟨hx, hb, hml, hr, hlk, hown, hnm, hex⟩ := hB.1
  have hM : Mx g D dA γ A n h H := hB.2.2.2.2.2.2
  have hTs : Tx s := hB.2.2.1.1.1
  have hKs : Kx D dA s := hB.2.2.1.1.2.1
  have hSt : ∀ a : Int, (a ≠ 0 ∧ -2 ≤ a) → a < SB → ¬ A (γ0 a) ∧ γ0 a < s.heap.size := hB.2.2.1.1.2.2.2.1
  have hHd : Hd D dA stS γ0 SB sc s.heap := hB.2.2.1.1.2.2.2.2
  have hS : va_S A s.heap H locs := hB.2.2.1.2.1
  have hn0 : SB ≤ n0 := hB.2.2.2.1
  have hγ : γ o = γ0 o := hB.2.2.2.2.2.1 o (by omega)
  obtain ⟨r1, r2, r3⟩ := rtL_ok hrt
  have hcl := hHd o ⟨by omega, by omega⟩ ho.2
  unfold Cl at hcl
  rw [hs, if_pos (by omega)] at hcl
  obtain ⟨cellB, hcell0, hcls, hvm, -⟩ := hcl
  have hcell : H[γ o]? = some cellB := by
    rw [hγ, hS.2.1 _ (hSt o ⟨by omega, by omega⟩ ho.2).2 (hSt o ⟨by omega, by omega⟩ ho.2).1]; exact hcell0
  have hfit : rfit g.1 n c o := ⟨by omega, by have := hM.1; omega, by rw [if_neg (by omega), hM.2.2.1 o ho.2]; exact hs⟩
  have hclass : s.vm.findClass (moN c) = some cellB.cls := by rw [hcls]; exact hKs.2.2 c hc9
  have hwa : ∀ v ∈ (vR (2 * c + 1) o :: as), wtV g.1 n v := by
    intro v hv
    rcases List.mem_cons.mp hv with e | e
    · rw [e]; exact Or.inr (by have : (2 * c + 1) / 2 = c := by omega
                               rw [this]; exact hfit)
    · exact r3 g.1 n (fun w hw => hws w (by simp [hw])) v e
  have hwr : ∀ v ∈ rest, wtV g.1 n v := fun v hv => hws v (by simp [hv])
  have ho0 : o ≠ 0 := by omega
  have hstk : (F0 m pc la ((as0.reverse ++ vR d o :: rest).map (cV γ))).stack = (as.map (cV γ)).reverse ++ .ref (γ o) :: rest.map (cV γ) := by
    show (as0.reverse ++ vR d o :: rest).map (cV γ) = _
    rw [List.map_append, List.map_cons, List.map_reverse, ← r2 γ]
    show _ ++ cR γ o :: _ = _
    unfold cR; rw [if_neg ho0]
  have hlen' : ∀ sig, parseMethodDescriptor x9.desc = some sig → (as.map (cV γ)).length = sig.parameters.length := fun sig hs => by
    rw [hs] at hlen; simp at hlen; rw [List.length_map, r1, hlen]
  have hsame := hTs.use hl2 args
  obtain ⟨r0, r, hn, hrm0, hstR, hsigR⟩ := Cond.declares_spec (hTs.use hl3 args)
  obtain ⟨cn, ck, r1', hcn, hck, hni, hf, hn1⟩ := Cond.sameMethod_found hsame
  cases hn.symm.trans hn1
  obtain ⟨mk, methM, hnamed, hmethM, -, habM⟩ := Cond.instanceMethod_spec (hTs.use hl5 args)
  obtain ⟨c2, r2', m2, q1, q2, q3, q4, kP, hkP, hkPi⟩ := Cond.selects_spec (hTs.use hl4 args)
  cases hclass.symm.trans q1
  cases hf.symm.trans q2
  cases hnamed.symm.trans q3
  have hselP : selectMethod e.platform s.vm cellB.cls r0 = .method mk := by rw [Launch.admits_selectMethod X.admits]; exact q4
  have hobj : ∀ z, cellB.vm ≠ .statics z := fun z h => by rw [hvm] at h; cases h
  have e1 : ((vR (2 * c + 1) o :: as).map (cV γ)).toArray = (Value.ref (γ o) :: as.map (cV γ)).toArray := by
    rw [List.map_cons]; show (cR γ o :: _).toArray = _; unfold cR; rw [if_neg ho0]
  obtain ⟨vm₁, X₁, hst⟩ := X.invokevirtualUp hx hown (hTs.use hl1 args) hsame hyy hn hrm0 hstR (a := γ o) (cell := cellB) (by rw [hT]; exact hcell) hobj hselP hmethM habM hkP hkPi (g := F0 m pc la ((as0.reverse ++ vR d o :: rest).map (cV γ))) rfl (argsL := as.map (cV γ)) (rest := rest.map (cV γ)) (hlen' _ hsigR) hstk (by rw [hb]; exact hd)
  obtain ⟨t, h1, h2⟩ := T_fin0 (Or.inr ⟨kk, hy, hle⟩) hB hL hwl hwr hwa (U := T.setVm vm₁) hT X₁ (X₁.named hnamed) hd hcw hrm.1 (hrm.words γ) hok
  rw [e1] at h1
  exact ⟨t, hst t (fun acts => by rw [doInvoke_state]; exact h1), h2⟩
