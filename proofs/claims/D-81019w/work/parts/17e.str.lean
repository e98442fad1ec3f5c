set_option maxRecDepth 100000
/-- a string's number, by its address -/
def sno (x : Int) : Nat := (x - 15).toNat
/-- byte j of string x -/
def sby (x j : Int) : Int := (sbyI.getD (sno x) []).getD j.toNat 0
def sle (x : Int) : Int := ((slen.getD (sno x) 0 : Nat) : Int)
theorem sbyt_at (i j : Nat) : (sbyt.getD i []).getD j 0 = Int32.ofInt ((sbyI.getD i []).getD j 0) := by
  unfold sbyt
  simp only [List.getD_eq_getElem?_getD, List.getElem?_map]
  cases h : sbyI[i]? with
  | none => rfl
  | some l =>
    simp only [Option.map_some, Option.getD_some, List.getElem?_map]
    cases h2 : l[j]? with
    | none => rfl
    | some v => rfl
theorem sby_r : ∀ i : Nat, i < 2 → ∀ j : Nat, j < 252 → 0 ≤ (sbyI.getD i []).getD j 0 ∧ (sbyI.getD i []).getD j 0 ≤ 127 := by decide +kernel
section
variable {g : G} {k pc : Nat} {ls : Lcs} {st0 : List V} {n : Int} {h : Mem} {Q : Out → Int → Mem → Prop} {x i : Int}
/-- a string constant -/
theorem T_ldcS {idx : Nat} (hd : decode (mC k) pc = .ok (.ldc idx, 2)) (hx : ((mY k).cls = "FontHouse" ∧ idx = 122 ∧ x = 15) ∨ ((mY k).cls = "FontHouse$Mode" ∧ idx = 35 ∧ x = 16)) (kk : T_at g k (pc + 2) ls (vR 77 x :: st0) n h Q) : T_at g k pc ls st0 n h Q := by
  intro p l e R s m args below meth cc D dA A γ0 n0 γ H locs cells slots la hB hL hwl hws
  have hM := hB.mx
  have hSx := hB.2.2.1.1.2.2.1.2.2.2
  have hγ : ∀ a, a < SB → γ a = γ0 a := fun a ha => hB.2.2.2.2.2.1 a (by have : SB ≤ n0 := hB.2.2.2.1; omega)
  have hxx : x = 15 ∨ x = 16 := by rcases hx with q | q <;> omega
  have hx17 : x < SB := by show x < 17; omega
  have hwv : wtV g.1 n (vR 77 x) := by
    refine Or.inr ⟨by omega, by have := hM.1; omega, ?_⟩
    rw [if_neg (by decide), hM.2.2.1 x hx17]
    rcases hxx with e | e <;> (subst e; rfl)
  have K := kk p l e R s m args below meth cc D dA A γ0 n0 γ H locs cells slots la hB hL hwl (fun u hu => by
    rcases List.mem_cons.mp hu with e | e
    · rw [e]; exact hwv
    · exact hws u e)
  have e1 : (vR 77 x :: st0).map (cV γ) = .ref (γ0 x) :: st0.map (cV γ) := by
    rw [List.map_cons]; show cR γ x :: _ = _; unfold cR; rw [if_neg (by omega), hγ x hx17]
  rw [e1] at K
  rcases hx with ⟨q1, q2, q3⟩ | ⟨q1, q2, q3⟩
  · subst q2 q3
    exact va_ldcS hB.1.1 hB.1.2.1 hB.1.2.2.2.2.2.1 (by rw [q1]; exact hSx.2.2.2.1) hd K
  · subst q2 q3
    exact va_ldcS hB.1.1 hB.1.2.1 hB.1.2.2.2.2.2.1 (by rw [q1]; exact hSx.2.2.2.2) hd K
/-- the field value of a string -/
theorem T_gfv {idx d : Nat} (hd : decode (mC k) pc = .ok (.getfield idx, 3)) (hl : (Cond.fieldLink (mY k).cls idx "java/lang/String" "value" "[B") ∈ lw_mv) (hx : x = 15 ∨ x = 16) (kk : T_at g k (pc + 3) ls (vR 73 (14 - x) :: st0) n h Q) : T_at g k pc ls (vR d x :: st0) n h Q := by
  intro p l e R s m args below meth cc D dA A γ0 n0 γ H locs cells slots la hB hL hwl hws
  have hM := hB.mx
  have hTs : Tx s := hB.2.2.1.1.1
  have hSx := hB.2.2.1.1.2.2.1.2.2.2
  have hγ : ∀ a, a < SB → γ a = γ0 a := fun a ha => hB.2.2.2.2.2.1 a (by have : SB ≤ n0 := hB.2.2.2.1; omega)
  have hx17 : x < SB := by show x < 17; omega
  have hy17 : 14 - x < SB := by show 14 - x < 17; omega
  have hwv : wtV g.1 n (vR 73 (14 - x)) := by
    refine Or.inr ⟨by omega, by have := hM.1; omega, ?_⟩
    rw [if_neg (by decide), hM.2.2.1 _ hy17]
    rcases hx with e | e <;> (subst e; rfl)
  have K := kk p l e R s m args below meth cc D dA A γ0 n0 γ H locs cells slots la hB hL hwl (fun u hu => by
    rcases List.mem_cons.mp hu with e | e
    · rw [e]; exact hwv
    · exact hws u (List.mem_cons_of_mem _ e))
  have e1 : (vR 73 (14 - x) :: st0).map (cV γ) = .ref (γ0 (14 - x)) :: st0.map (cV γ) := by
    rw [List.map_cons]; show cR γ _ :: _ = _; unfold cR; rw [if_neg (by omega), hγ _ hy17]
  have e2 : (vR d x :: st0).map (cV γ) = .ref (γ0 x) :: st0.map (cV γ) := by
    rw [List.map_cons]; show cR γ _ :: _ = _; unfold cR; rw [if_neg (by omega), hγ _ hx17]
  rw [e1] at K
  rw [e2]
  rcases hx with e | e
  · subst e
    exact vk_getf hB.1.1 hB.1.2.1 (hSx.1.1 0 (by omega)).2.2.1 hB.2.2.1.2.1 hB.1.2.2.2.2.2.1 (hTs.use hl args) (fun _ h => h) hd K
  · subst e
    exact vk_getf hB.1.1 hB.1.2.1 (hSx.1.1 1 (by omega)).2.2.1 hB.2.2.1.2.1 hB.1.2.2.2.2.2.1 (hTs.use hl args) (fun _ h => h) hd K
/-- the field coder of a string -/
theorem T_gfc {idx d : Nat} (hd : decode (mC k) pc = .ok (.getfield idx, 3)) (hl : (Cond.fieldLink (mY k).cls idx "java/lang/String" "coder" "B") ∈ lw_mv) (hx : x = 15 ∨ x = 16) (kk : T_at g k (pc + 3) ls (vI 0 :: st0) n h Q) : T_at g k pc ls (vR d x :: st0) n h Q := by
  intro p l e R s m args below meth cc D dA A γ0 n0 γ H locs cells slots la hB hL hwl hws
  have hTs : Tx s := hB.2.2.1.1.1
  have hSx := hB.2.2.1.1.2.2.1.2.2.2
  have hγ : ∀ a, a < SB → γ a = γ0 a := fun a ha => hB.2.2.2.2.2.1 a (by have : SB ≤ n0 := hB.2.2.2.1; omega)
  have hx17 : x < SB := by show x < 17; omega
  have K := kk p l e R s m args below meth cc D dA A γ0 n0 γ H locs cells slots la hB hL hwl (fun u hu => by
    rcases List.mem_cons.mp hu with e | e
    · rw [e]; show i32 0; unfold i32; omega
    · exact hws u (List.mem_cons_of_mem _ e))
  have e2 : (vR d x :: st0).map (cV γ) = .ref (γ0 x) :: st0.map (cV γ) := by
    rw [List.map_cons]; show cR γ _ :: _ = _; unfold cR; rw [if_neg (by omega), hγ _ hx17]
  rw [e2]
  rcases hx with e | e
  · subst e
    exact vk_getf hB.1.1 hB.1.2.1 (hSx.1.1 0 (by omega)).2.1 hB.2.2.1.2.1 hB.1.2.2.2.2.2.1 (hTs.use hl args) (fun _ h => h) hd K
  · subst e
    exact vk_getf hB.1.1 hB.1.2.1 (hSx.1.1 1 (by omega)).2.1 hB.2.2.1.2.1 hB.1.2.2.2.2.2.1 (hTs.use hl args) (fun _ h => h) hd K
/-- COMPACT_STRINGS -/
theorem T_gsz {idx : Nat} (hd : decode (mC k) pc = .ok (.getstatic idx, 3)) (hl : (Cond.fieldLink (mY k).cls idx "java/lang/String" "COMPACT_STRINGS" "Z") ∈ lw_mv) (kk : T_at g k (pc + 3) ls (vI 1 :: st0) n h Q) : T_at g k pc ls st0 n h Q := by
  intro p l e R s m args below meth cc D dA A γ0 n0 γ H locs cells slots la hB hL hwl hws
  have hTs : Tx s := hB.2.2.1.1.1
  have hSx := hB.2.2.1.1.2.2.1.2.2.2
  have K := kk p l e R s m args below meth cc D dA A γ0 n0 γ H locs cells slots la hB hL hwl (fun u hu => by
    rcases List.mem_cons.mp hu with e | e
    · rw [e]; show i32 1; unfold i32; omega
    · exact hws u e)
  exact va_gets hB.1.1 hB.1.2.1 hSx.2.1 hB.2.2.1.2.1 hB.1.2.2.2.2.2.1 (hTs.use hl args) (fun _ h => h) hd K
/-- the formatter: null, or something -/
theorem T_gsf {idx : Nat} (hd : decode (mC k) pc = .ok (.getstatic idx, 3)) (hl : (Cond.fieldLink (mY k).cls idx "jdk/internal/util/Preconditions" "SIOOBE_FORMATTER" "Ljava/util/function/BiFunction;") ∈ lw_mv) (kk : ∀ z : Int, (z = 0 ∨ z = -3) → T_at g k (pc + 3) ls (vR 70 z :: st0) n h Q) : T_at g k pc ls st0 n h Q := by
  intro p l e R s m args below meth cc D dA A γ0 n0 γ H locs cells slots la hB hL hwl hws
  have hM := hB.mx
  have hTs : Tx s := hB.2.2.1.1.1
  have hSx := hB.2.2.1.1.2.2.1.2.2.2
  have hγ : ∀ a, a < SB → γ a = γ0 a := fun a ha => hB.2.2.2.2.2.1 a (by have : SB ≤ n0 := hB.2.2.2.1; omega)
  obtain ⟨z, hz, hZ⟩ := hSx.2.2.1
  have hz17 : z < SB := by show z < 17; omega
  have K := kk z hz p l e R s m args below meth cc D dA A γ0 n0 γ H locs cells slots la hB hL hwl (fun u hu => by
    rcases List.mem_cons.mp hu with e | e
    · rw [e]
      rcases hz with q | q
      · exact Or.inl ⟨q, by decide⟩
      · refine Or.inr ⟨by omega, by have := hM.1; omega, ?_⟩
        rw [if_neg (by decide), hM.2.2.1 _ hz17, q]
        rfl
    · exact hws u e)
  have e1 : (vR 70 z :: st0).map (cV γ) = cR γ0 z :: st0.map (cV γ) := by
    rw [List.map_cons]; show cR γ _ :: _ = _; unfold cR; rw [hγ _ hz17]
  rw [e1] at K
  exact va_gets hB.1.1 hB.1.2.1 hZ hB.2.2.1.2.1 hB.1.2.2.2.2.2.1 (hTs.use hl args) (fun _ h => h) hd K
/-- the length of a string's bytes -/
theorem T_alS {d : Nat} (hd : decode (mC k) pc = .ok (.arraylength, 1)) (hx : x = 15 ∨ x = 16) (kk : T_at g k (pc + 1) ls (vI (sle x) :: st0) n h Q) : T_at g k pc ls (vR d (14 - x) :: st0) n h Q := by
  intro p l e R s m args below meth cc D dA A γ0 n0 γ H locs cells slots la hB hL hwl hws
  have hSx := hB.2.2.1.1.2.2.1.2.2.2
  have hγ : ∀ a, a < SB → γ a = γ0 a := fun a ha => hB.2.2.2.2.2.1 a (by have : SB ≤ n0 := hB.2.2.2.1; omega)
  have hy17 : 14 - x < SB := by show 14 - x < 17; omega
  have K := kk p l e R s m args below meth cc D dA A γ0 n0 γ H locs cells slots la hB hL hwl (fun u hu => by
    rcases List.mem_cons.mp hu with e | e
    · rw [e]
      show i32 _
      unfold i32
      rcases hx with q | q <;> (subst q; decide)
    · exact hws u (List.mem_cons_of_mem _ e))
  have e2 : (vR d (14 - x) :: st0).map (cV γ) = .ref (γ0 (14 - x)) :: st0.map (cV γ) := by
    rw [List.map_cons]; show cR γ _ :: _ = _; unfold cR; rw [if_neg (by omega), hγ _ hy17]
  rw [e2]
  rcases hx with e | e
  · subst e
    exact va_tlen hB.1.1 hB.1.2.1 (hSx.1.1 0 (by omega)).2.2.2 hB.2.2.1.2.1 (v := Int32.ofInt (sle 15)) (by decide) hd K
  · subst e
    exact va_tlen hB.1.1 hB.1.2.1 (hSx.1.1 1 (by omega)).2.2.2 hB.2.2.1.2.1 (v := Int32.ofInt (sle 16)) (by decide) hd K
/-- a byte of a string -/
theorem T_baS {d : Nat} (hd : decode (mC k) pc = .ok (.baload, 1)) (hx : x = 15 ∨ x = 16) (i0 : 0 ≤ i) (i1 : i < sle x) (kk : T_at g k (pc + 1) ls (vI (sby x i) :: st0) n h Q) : T_at g k pc ls (vI i :: vR d (14 - x) :: st0) n h Q := by
  intro p l e R s m args below meth cc D dA A γ0 n0 γ H locs cells slots la hB hL hwl hws
  have hSx := hB.2.2.1.1.2.2.1.2.2.2
  have hγ : ∀ a, a < SB → γ a = γ0 a := fun a ha => hB.2.2.2.2.2.1 a (by have : SB ≤ n0 := hB.2.2.2.1; omega)
  have hy17 : 14 - x < SB := by show 14 - x < 17; omega
  have hl : sle x ≤ 252 := by rcases hx with q | q <;> (subst q; decide)
  have hb : 0 ≤ sby x i ∧ sby x i ≤ 127 := sby_r (sno x) (by unfold sno; omega) i.toNat (by omega)
  have K := kk p l e R s m args below meth cc D dA A γ0 n0 γ H locs cells slots la hB hL hwl (fun u hu => by
    rcases List.mem_cons.mp hu with e | e
    · rw [e]
      show i32 _
      unfold i32; omega
    · exact hws u (List.mem_cons_of_mem _ (List.mem_cons_of_mem _ e)))
  have e2 : (vI i :: vR d (14 - x) :: st0).map (cV γ) = .int (Int32.ofInt i) :: .ref (γ0 (14 - x)) :: st0.map (cV γ) := by
    rw [List.map_cons, List.map_cons]; show _ :: cR γ _ :: _ = _; unfold cR; rw [if_neg (by omega), hγ _ hy17]; rfl
  rw [e2]
  have hi32 : i32 i := by unfold i32; omega
  have hcl : (Int32.ofInt i).toNatClampNeg = i.toNat := clamp_i hi32 i0
  have hin : ∀ N : Nat, (N : Int) = sle x → vp_in (Int32.ofInt i) N := fun N hN => in_i hi32 i0 (by omega)
  rcases hx with e | e
  · subst e
    exact va_tb hB.1.1 hB.1.2.1 (hSx.1.1 0 (by omega)).2.2.2 hB.2.2.1.2.1 (hin _ rfl) (v := .int (Int32.ofInt (sby 15 i))) (by rw [hcl]; exact congrArg Value.int (sbyt_at 0 i.toNat)) hd K
  · subst e
    exact va_tb hB.1.1 hB.1.2.1 (hSx.1.1 1 (by omega)).2.2.2 hB.2.2.1.2.1 (hin _ rfl) (v := .int (Int32.ofInt (sby 16 i))) (by rw [hcl]; exact congrArg Value.int (sbyt_at 1 i.toNat)) hd K
/-- a call of a string's method -/
theorem T_invT {idx k' : Nat} {ts : List Nat} {as0 as : List V} {d : Nat} {o : Int} {rest : List V}
    (hd : decode (mC k) pc = .ok (.invokevirtual idx, 3)) (hl1 : (Cond.methodLink (mY k).cls idx (mY k')) ∈ lw_mv) (hl4 : (Cond.selects "java/lang/String" (mY k') (mY k')) ∈ lw_mv) (hl5 : (Cond.instanceMethod (mY k')) ∈ lw_mv) (hcw : mW k' ∈ lw_mv) (hini : (Cond.initialized (mY k').cls) ∈ lw_mv)
    (hyy : (mY k').cls ≠ "java/lang/invoke/MethodHandle" ∧ (mY k').cls ≠ "java/lang/invoke/VarHandle") (hlen : (parseMethodDescriptor (mY k').desc).map (fun d => d.parameters.length) = some as0.length) (hok : Hok k) (hrm : Rm k k' rest) (ho : o = 15 ∨ o = 16) (hrt : rtL ts as0 = some as)
    (kk : T g k' (vR 77 o :: as) n h (Kn g k pc ls rest Q)) : T_at g k pc ls (as0.reverse ++ vR d o :: rest) n h Q := by
  intro p l e R s m args below meth cc D dA A γ0 n0 γ H locs cells slots la hB hL hwl hws T hT X
  obtain ⟨hx, hb, hml, hr, hlk, hown, hnm, hex⟩ := hB.1
  have hM : Mx g D dA γ A n h H := hB.2.2.2.2.2.2
  have hTs : Tx s := hB.2.2.1.1.1
  have hS : va_S A s.heap H locs := hB.2.2.1.2.1
  have hSx := hB.2.2.1.1.2.2.1.2.2.2
  have hn0 : SB ≤ n0 := hB.2.2.2.1
  have ho17 : o < SB := by show o < 17; omega
  have hγ : γ o = γ0 o := hB.2.2.2.2.2.1 o (by omega)
  obtain ⟨r1, r2, r3⟩ := rtL_ok hrt
  have hcell9 : ∃ cell : Cell, H[γ o]? = some cell ∧ cell.vm.isStatics = false ∧ s.vm.findClass "java/lang/String" = some cell.cls := by
    rw [hγ]
    rcases ho with e | e
    · subst e; exact vk_recv hSx.1 (show 0 < 2 by omega) hS
    · subst e; exact vk_recv hSx.1 (show 1 < 2 by omega) hS
  obtain ⟨cellB, hcell, hst9, hclass⟩ := hcell9
  have hfit : rfit g.1 n 38 o := ⟨by omega, by have := hM.1; omega, by
    rw [if_neg (by decide), hM.2.2.1 o ho17]
    rcases ho with e | e <;> (subst e; rfl)⟩
  have hwa : ∀ v ∈ (vR 77 o :: as), wtV g.1 n v := by
    intro v hv
    rcases List.mem_cons.mp hv with e | e
    · rw [e]; exact Or.inr hfit
    · exact r3 g.1 n (fun w hw => hws w (by simp [hw])) v e
  have hwr : ∀ v ∈ rest, wtV g.1 n v := fun v hv => hws v (by simp [hv])
  have ho0 : o ≠ 0 := by omega
  have hstk : (F0 m pc la ((as0.reverse ++ vR d o :: rest).map (cV γ))).stack = (as.map (cV γ)).reverse ++ .ref (γ o) :: rest.map (cV γ) := by
    show (as0.reverse ++ vR d o :: rest).map (cV γ) = _
    rw [List.map_append, List.map_cons, List.map_reverse, ← r2 γ]
    show _ ++ cR γ o :: _ = _
    unfold cR; rw [if_neg ho0]
  have hlen' : ∀ sig, parseMethodDescriptor (mY k').desc = some sig → (as.map (cV γ)).length = sig.parameters.length := fun sig hs => by
    rw [hs] at hlen; simp at hlen; rw [List.length_map, r1, hlen]
  obtain ⟨mk, methM, hnamed, hmethM, hstM, habM⟩ := Cond.instanceMethod_spec (hTs.use hl5 args)
  obtain ⟨m9, methM', cM, hn9, hmethM', -, -, -, -, -, -, hsigM⟩ := mW_spec (hTs.use hcw args)
  cases hnamed.symm.trans hn9
  cases hmethM.symm.trans hmethM'
  obtain ⟨c2, r2', m2, q1, q2, q3, q4, kP, hkP, hkPi⟩ := Cond.selects_spec (hTs.use hl4 args)
  cases hclass.symm.trans q1
  cases (State.methodFound?_of_named hnamed hyy).symm.trans q2
  cases hnamed.symm.trans q3
  have hselP : selectMethod e.platform s.vm cellB.cls mk = .method mk := by rw [Launch.admits_selectMethod X.admits]; exact q4
  have hobj : ∀ z, cellB.vm ≠ .statics z := fun z h => by rw [h] at hst9; cases hst9
  have e1 : ((vR 77 o :: as).map (cV γ)).toArray = (Value.ref (γ o) :: as.map (cV γ)).toArray := by
    rw [List.map_cons]; show (cR γ o :: _).toArray = _; unfold cR; rw [if_neg ho0]
  obtain ⟨vm₁, X₁, hst⟩ := X.invokevirtual hx hown (hTs.use hl1 args) hnamed hmethM hstM hkP hkPi hyy (a := γ o) (cell := cellB) (by rw [hT]; exact hcell) hobj hselP hmethM habM hkP hkPi (g := F0 m pc la ((as0.reverse ++ vR d o :: rest).map (cV γ))) rfl (argsL := as.map (cV γ)) (rest := rest.map (cV γ)) (hlen' _ hsigM) hstk (by rw [hb]; exact hd)
  obtain ⟨t, h1, h2⟩ := T_fin kk hB hL hwl hwr hwa (U := T.setVm vm₁) hT X₁ (X₁.named hnamed) hd hcw hini hrm.1 (hrm.words γ) hok
  rw [e1] at h1
  exact ⟨t, hst t (fun acts => by rw [doInvoke_state]; exact h1), h2⟩
end
