set_option maxRecDepth 100000
theorem cV_cat1 (γ : Int → Nat) (v : V) : (cV γ v).category = match v with | .inr (.inl _) => 2 | _ => 1 := by
  rcases v with x | x | ⟨d, x⟩
  · rfl
  · rfl
  · show (cR γ x).category = 1
    unfold cR; split <;> rfl
def entL : List V → Lcs
  | [] => []
  | .inr (.inl x) :: r => some (vL x) :: none :: entL r
  | v :: r => some v :: entL r
theorem entL_mem (γ : Int → Nat) (av : List V) : ∀ (off i : Nat) (v : V), (entL av)[i]? = some (some v) → (off + i, cV γ v) ∈ lv_args off (av.map (cV γ)) := by
  induction av with
  | nil => intro off i v h; simp [entL] at h
  | cons a r ih =>
    intro off i v h
    rcases a with x | x | ⟨d, x⟩
    · cases i with
      | zero => simp [entL] at h; subst h; exact List.mem_cons_self
      | succ i =>
        have h' : (entL r)[i]? = some (some v) := by simpa [entL] using h
        have := ih (off + 1) i v h'
        refine List.mem_cons_of_mem _ ?_
        have e : off + (i + 1) = off + 1 + i := by omega
        rw [e]; exact this
    · cases i with
      | zero => simp [entL] at h; subst h; exact List.mem_cons_self
      | succ i =>
        cases i with
        | zero => simp [entL] at h
        | succ i =>
          have h' : (entL r)[i]? = some (some v) := by simpa [entL] using h
          have := ih (off + 2) i v h'
          refine List.mem_cons_of_mem _ ?_
          have e : off + (i + 1 + 1) = off + 2 + i := by omega
          rw [e]; exact this
    · have hc := cV_cat1 γ (.inr (.inr (d, x)))
      cases i with
      | zero => simp [entL] at h; subst h; exact List.mem_cons_self
      | succ i =>
        have h' : (entL r)[i]? = some (some v) := by simpa [entL] using h
        have := ih (off + 1) i v h'
        refine List.mem_cons_of_mem _ ?_
        have e : off + (i + 1) = off + 1 + i := by omega
        rw [e]
        simp only [hc]
        exact this
theorem entL_len (γ : Int → Nat) (av : List V) : (lg_sl (av.map (cV γ))).length = (entL av).length := by
  induction av with
  | nil => rfl
  | cons a r ih =>
    rcases a with x | x | ⟨d, x⟩
    · simp only [List.map_cons, entL, List.length_cons]; rw [← ih]; simp [lg_sl, cV, Value.category]
    · simp only [List.map_cons, entL, List.length_cons]; rw [← ih]; simp [lg_sl, cV, Value.category]
    · have hc := cV_cat1 γ (.inr (.inr (d, x)))
      simp only [List.map_cons, entL, List.length_cons]; rw [← ih]; simp [lg_sl, hc]
theorem entL_wt {P : V → Prop} (av : List V) (h : ∀ v ∈ av, P v) : ∀ (i : Nat) (v : V), (entL av)[i]? = some (some v) → P v := by
  induction av with
  | nil => intro i v h; simp [entL] at h
  | cons a r ih =>
    intro i v hv
    have ih' := ih (fun v hv => h v (List.mem_cons_of_mem _ hv))
    have h0 := h a List.mem_cons_self
    rcases a with x | x | ⟨d, x⟩
    · cases i with
      | zero => simp [entL] at hv; subst hv; exact h0
      | succ i => exact ih' i v (by simpa [entL] using hv)
    · cases i with
      | zero => simp [entL] at hv; subst hv; exact h0
      | succ i => cases i with
        | zero => simp [entL] at hv
        | succ i => exact ih' i v (by simpa [entL] using hv)
    · cases i with
      | zero => simp [entL] at hv; subst hv; exact h0
      | succ i => exact ih' i v (by simpa [entL] using hv)
theorem mW_spec {k : Nat} {args : Array Value} {s : State} (h : (mW k).before args s = true) : ∃ m meth c, s.methodNamed? (mY k) = some m ∧ s.vm.method? m = some meth ∧ meth.code = some c ∧ c.code = mC k ∧ c.maxLocals = mL k ∧
    c.exceptionTable.toList.map (fun h => (h.startPc, h.endPc, h.handlerPc, h.catchType)) = mHd k ∧ meth.sig.returnType = mRet k ∧ meth.locks = false ∧ parseMethodDescriptor (mY k).desc = some meth.sig := by
  unfold mW at h
  cases hh : mHd k with
  | nil =>
    rw [hh] at h
    simp only [List.isEmpty_nil, if_true] at h
    obtain ⟨m, hn⟩ := Cond.code_named h
    obtain ⟨meth, c, h1, h2, h3, h4, h5, h6, h7, h8⟩ := Cond.code_spec hn h
    exact ⟨m, meth, c, hn, h1, h2, h3, h4, by simp [Array.isEmpty_iff.mp h7], h5, h6, h8⟩
  | cons a r =>
    rw [hh] at h
    simp only [List.isEmpty_cons] at h
    exact Cond.codeWith_spec h
theorem slN_self (S : Shp) (a : Int) : slN S a a = 0 := by simp [slN]
/-- the first step: a contract out of the walk of its body -/
theorem T_entry {g : G} {k : Nat} {av : List V} {n : Int} {h : Mem} {Q : Out → Int → Mem → Prop} (hy : plainName (mY k).cls = true) (hl : (entL av).length ≤ mL k) (b : T_at g k 0 (entL av ++ List.replicate (mL k - (entL av).length) none) [] n h Q) : T g k av n h Q := by
  intro l D dA γ A
  refine MetFree.of_bodyS (code := mC k) (maxLocals := mL k) (ret := mRet k) hy ?_ ?_
  · intro args s m hp hn
    obtain ⟨m9, meth, c, hn9, h1, h2, h3, h4, -, h5, h6, -⟩ := mW_spec (atoms_spec (ws := [mW k]) hp _ List.mem_cons_self)
    cases hn.symm.trans hn9
    exact ⟨meth, c, h1, h2, h3, h4, h5, h6⟩
  · intro p e s m args below meth c s₁ B hml hP _
    obtain ⟨rfl, hC, hM, hA, hw⟩ := hP
    have hh0 : s₁.heap = s.heap := by rw [B.state]; rfl
    obtain ⟨m9, meth9, c9, hn9, h1, h2, h3, h4, hex, h5, h6, -⟩ := mW_spec (atoms_spec (ws := [mW k]) B.pre _ List.mem_cons_self)
    cases B.named.symm.trans hn9
    cases B.method.symm.trans h1
    cases (Stand.of_body B).code.symm.trans h2
    have hent := lv_entry (av.map (cV γ)) (n := mL k) (by rw [entL_len]; exact hl)
    have hLx : Lx γ (mL k) (entL av ++ List.replicate (mL k - (entL av).length) none) ((lg_sl (av.map (cV γ)) ++ List.replicate (mL k - (lg_sl (av.map (cV γ))).length) Slot.unset).toArray) := by
      refine ⟨hent.1, hent.2.1, fun i v hv => ?_⟩
      rcases Nat.lt_or_ge i (entL av).length with hi | hi
      · rw [List.getElem?_append_left hi] at hv
        have := entL_mem γ av 0 i v hv
        rw [Nat.zero_add] at this
        exact hent.2.2 _ this
      · rw [List.getElem?_append_right hi] at hv
        simp [List.getElem?_replicate] at hv
    have K := b p l e { frames := mFR k, cells := (g.2.1 - n).toNat, slots := slN g.1 n g.2.1, locals := mLO k } s m (av.map (cV γ)).toArray below meth c D dA A γ n γ s.heap [] 0 0 _ ⟨⟨B.exec, h3, h4, h5, h6, findClass_of_methodNamed B.named, (name_of_methodNamed B.named B.method).1, hex⟩, ⟨Nat.le_refl _, Nat.le_refl _, Nat.le_of_eq (Nat.zero_add _), Nat.le_of_eq (Nat.zero_add _)⟩, ⟨hC, va_S.rf, hA⟩, ⟨hM.1, Int.le_refl _, fun _ _ => rfl, hM⟩⟩ hLx
      (fun i v hv => by
        rcases Nat.lt_or_ge i (entL av).length with hi | hi
        · rw [List.getElem?_append_left hi] at hv
          exact entL_wt av hw i v hv
        · rw [List.getElem?_append_right hi] at hv
          simp [List.getElem?_replicate] at hv) (fun v hv => by cases hv)
    rw [List.map_nil, ← lg_entry_eq] at K
    obtain ⟨t, a1, o, b1, b2, b3⟩ := K s₁ hh0 (Stand.of_body B)
    exact ⟨t, o, a1, b1, b2, b3⟩
theorem Cx.moved {D : va_G} {dA : Nat → ClassId} {γ γ' : Int → Nat} {A : Nat → Prop} {s U : State} (h : Cx D dA γ A s) (hW : s.WarmedH U.vm) (hz : s.heap.size ≤ U.heap.size) (hk : ∀ q : Nat, q < s.heap.size → ¬ A q → U.heap[q]? = s.heap[q]?) (hg : ∀ a, a < SB → γ' a = γ a) : Cx D dA γ' A U := by
  obtain ⟨h1, h2, h3, h4, h5⟩ := h
  have hc : ∀ (c : Nat) (x : Int), x < SB → cS γ' c x = cS γ c x := fun c x hx => by
    unfold cS cR; rw [hg x hx]
  have hsc : ∀ a j : Int, sc a j < SB ∨ True := fun _ _ => Or.inr trivial
  refine ⟨h1.moved hW, h2.moved hW.alike, ?_, ?_, ?_⟩
  · refine ⟨fun z hz' => ?_, (h3.2.1.moved hW.alike).kept hk, (h3.2.2.1.moved hW.alike).kept hk, h3.2.2.2.moved hW hk hg⟩
    have e : cV γ' z.2.2.2 = cV γ z.2.2.2 := by
      simp only [stTab, List.mem_cons, List.not_mem_nil, or_false] at hz'
      rcases hz' with e | e | e | e | e | e | e | e | e | e | e | e | e | e | e | e | e <;> (subst e; first | rfl | (show cR γ' _ = cR γ _; unfold cR; rw [hg _ (by decide)]))
    rw [e]
    exact ((h3.1 z hz').moved hW.alike).kept hk
  · intro a ha hb
    rw [hg a hb]
    exact ⟨(h4 a ha hb).1, Nat.lt_of_lt_of_le (h4 a ha hb).2 hz⟩
  · intro a ha hb
    have h6 := h5 a ha hb
    have h7 := h4 a ha hb
    have e := hk _ h7.2 h7.1
    unfold Cl at h6 ⊢
    rw [hg a hb, e]
    split at h6
    · rw [if_pos (by assumption)]
      obtain ⟨cell, g1, g2, g3, g4, g5⟩ := h6
      refine ⟨cell, g1, g2, g3, g4, fun j hj hne => ?_⟩
      have hz0 : (stS a).2 = 0 := by
        have hkk : (stS a).1 < 40 := by assumption
        have : a = -2 ∨ a = -1 ∨ a = 1 ∨ a = 2 ∨ a = 3 ∨ a = 4 ∨ a = 5 ∨ a = 6 ∨ a = 7 ∨ a = 8 ∨ a = 9 ∨ a = 10 ∨ a = 11 ∨ a = 12 ∨ a = 13 ∨ a = 14 ∨ a = 15 ∨ a = 16 := by
          have : a < 17 := hb
          omega
        rcases this with e | e | e | e | e | e | e | e | e | e | e | e | e | e | e | e | e | e <;> (subst e; first | rfl | (exact absurd hkk (by decide)))
      omega
    · rw [if_neg (by assumption)]
      rw [h6]
      congr 2
      funext j
      by_cases hk0 : sk (stS a).1 0 < 6
      · unfold cS
        split
        · rfl
        · rw [if_pos (by omega), if_pos (by omega)]
      · have : sc a j < SB := by
          have hkk : ¬ (stS a).1 < 40 := by assumption
          have : a = -2 ∨ a = -1 ∨ a = 1 ∨ a = 2 ∨ a = 3 ∨ a = 4 ∨ a = 5 ∨ a = 6 ∨ a = 7 ∨ a = 8 ∨ a = 9 ∨ a = 10 ∨ a = 11 ∨ a = 12 ∨ a = 13 ∨ a = 14 ∨ a = 15 ∨ a = 16 := by
            have : a < 17 := hb
            omega
          rcases this with e | e | e | e | e | e | e | e | e | e | e | e | e | e | e | e | e | e <;> (subst e; first | (exact absurd (by decide) hk0) | (exact absurd (by decide) hkk) | skip)
          show (([11, 12, 13, 14] : List Int).getD _ 0) < 17
          match (j : Int).toNat with
          | 0 => decide
          | 1 => decide
          | 2 => decide
          | 3 => decide
          | n + 4 => simp
        exact (hc _ _ this).symm
