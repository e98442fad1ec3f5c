set_option maxRecDepth 100000
/-- a store into the locals: what it overwrites of a long goes -/
def klp (ls : Lcs) : Nat → Lcs
  | 0 => ls
  | j + 1 => match ls[j]? with
    | some (some (.inr (.inl _))) => ls.set j none
    | _ => ls
def stl (ls : Lcs) (i : Nat) (v : V) : Lcs := match v with
  | .inr (.inl _) => ((klp ls i).set i (some v)).set (i + 1) none
  | _ => (klp ls i).set i (some v)
theorem stl_at {ls : Lcs} {i : Nat} {v : V} {j : Nat} {w : V} (h : (stl ls i v)[j]? = some (some w)) : (j = i ∧ w = v) ∨ (j ≠ i ∧ ls[j]? = some (some w) ∧ ¬ (j + 1 = i ∧ ∃ x, w = vL x) ∧ ¬ (j = i + 1 ∧ ∃ x, v = vL x)) := by
  unfold stl at h
  by_cases hji : j = i
  · subst hji
    left
    refine ⟨rfl, ?_⟩
    rcases v with x | x | ⟨d, x⟩ <;> simp [List.getElem?_set] at h <;> exact h.2.symm
  · right
    refine ⟨hji, ?_⟩
    have key : ∀ l1 : Lcs, l1[j]? = some (some w) → (l1 = ls ∨ ∃ q, i = q + 1 ∧ (∃ x, ls[q]? = some (some (vL x))) ∧ l1 = ls.set q none) → (∀ q x, i = q + 1 → ls[q]? = some (some (vL x)) → l1 = ls.set q none) → ls[j]? = some (some w) ∧ ¬ (j + 1 = i ∧ ∃ x, w = vL x) := by
      intro l1 h1 h2 h3
      rcases h2 with e | ⟨q, e1, e2, e3⟩
      · subst e
        refine ⟨h1, fun ⟨q1, x, q2⟩ => ?_⟩
        subst q2
        have := h3 j x q1.symm h1
        rw [this] at h1
        simp [List.getElem?_set] at h1
      · subst e3
        have hjq : j ≠ q := by
          intro e; subst e
          simp [List.getElem?_set] at h1
        rw [List.getElem?_set_ne (Ne.symm hjq)] at h1
        exact ⟨h1, fun ⟨q1, _⟩ => hjq (by omega)⟩
    have hl1 : ∃ l1 : Lcs, klp ls i = l1 ∧ (l1 = ls ∨ ∃ q, i = q + 1 ∧ (∃ x, ls[q]? = some (some (vL x))) ∧ l1 = ls.set q none) ∧ (∀ q x, i = q + 1 → ls[q]? = some (some (vL x)) → l1 = ls.set q none) := by
      cases i with
      | zero => exact ⟨ls, rfl, Or.inl rfl, fun q x e => by omega⟩
      | succ q =>
        by_cases hq : ∃ x, ls[q]? = some (some (vL x))
        · obtain ⟨x, hx⟩ := hq
          refine ⟨ls.set q none, by simp [klp, hx], Or.inr ⟨q, rfl, ⟨x, hx⟩, rfl⟩, ?_⟩
          intro q' x' e' _
          obtain rfl : q' = q := by omega
          rfl
        · refine ⟨ls, ?_, Or.inl rfl, ?_⟩
          rotate_left
          · intro q' x' e' e2
            obtain rfl : q' = q := by omega
            exact absurd ⟨x', e2⟩ hq
          simp only [klp]
          split
          · rename_i x heq
            exact absurd ⟨x, heq⟩ hq
          · rfl
    obtain ⟨l1, e1, e2, e3⟩ := hl1
    simp only [e1] at h
    rcases v with x | x | ⟨d, x⟩
    · have h' : l1[j]? = some (some w) := by simpa [List.getElem?_set, Ne.symm hji] using h
      obtain ⟨a, b⟩ := key l1 h' e2 e3
      exact ⟨a, b, fun ⟨_, y, q⟩ => by simp at q⟩
    · have hj2 : j ≠ i + 1 := by
        intro e; subst e
        simp [List.getElem?_set] at h
      have h' : l1[j]? = some (some w) := by
        simp only [] at h
        rw [List.getElem?_set_ne (Ne.symm hj2), List.getElem?_set_ne (Ne.symm hji)] at h
        exact h
      obtain ⟨a, b⟩ := key l1 h' e2 e3
      exact ⟨a, b, fun ⟨q, _⟩ => hj2 q⟩
    · have h' : l1[j]? = some (some w) := by simpa [List.getElem?_set, Ne.symm hji] using h
      obtain ⟨a, b⟩ := key l1 h' e2 e3
      exact ⟨a, b, fun ⟨_, y, q⟩ => by simp at q⟩
theorem cV_cat2 {γ : Int → Nat} {w : V} (h : (cV γ w).category = 2) : ∃ x, w = vL x := by
  rw [cV_cat1] at h
  rcases w with x | x | ⟨d, x⟩
  · simp at h
  · exact ⟨x, rfl⟩
  · simp at h
/-- the locals as pairs -/
def lpairs (γ : Int → Nat) (ls : Lcs) : List (Nat × Value) := (List.range ls.length).filterMap (fun i => match ls[i]? with | some (some v) => some (i, cV γ v) | _ => none)
theorem lpairs_mem {γ : Int → Nat} {ls : Lcs} {q : Nat × Value} : q ∈ lpairs γ ls ↔ ∃ v, ls[q.1]? = some (some v) ∧ q.2 = cV γ v := by
  unfold lpairs
  rw [List.mem_filterMap]
  constructor
  · rintro ⟨i, hi, he⟩
    split at he
    · rename_i v hv
      simp at he; subst he; exact ⟨v, hv, rfl⟩
    · simp at he
  · rintro ⟨v, hv, e⟩
    refine ⟨q.1, List.mem_range.mpr (List.getElem?_eq_some_iff.mp hv).1, ?_⟩
    rw [hv]; simp [← e]
theorem Lx.has {γ : Int → Nat} {nL : Nat} {ls : Lcs} {la : Array Slot} (h : Lx γ nL ls la) : lv_has la nL (lpairs γ ls) :=
  ⟨h.1, h.2.1, fun q hq => by obtain ⟨v, hv, e⟩ := lpairs_mem.mp hq; rw [e]; exact h.2.2 q.1 v hv⟩
theorem Lx.set1 {γ : Int → Nat} {nL : Nat} {ls : Lcs} {la : Array Slot} {i : Nat} {v : V} (hv : ∀ x, v ≠ vL x) (h : lv_has la nL ((i, cV γ v) :: (lpairs γ ls).filter (fun q => !(q.1 == i) && !(q.1 + 1 == i && q.2.category == 2)))) : Lx γ nL (stl ls i v) la := by
  refine ⟨h.1, h.2.1, fun j w hw => ?_⟩
  rcases stl_at hw with ⟨e1, e2⟩ | ⟨h1, h2, h3, h4⟩
  · subst e1; subst e2; exact h.2.2 (j, cV γ w) List.mem_cons_self
  · refine h.2.2 (j, cV γ w) (List.mem_cons_of_mem _ (List.mem_filter.mpr ⟨lpairs_mem.mpr ⟨w, h2, rfl⟩, ?_⟩))
    simp only [Bool.and_eq_true, Bool.not_eq_true', beq_eq_false_iff_ne, ne_eq, Bool.and_eq_false_iff]
    refine ⟨h1, ?_⟩
    by_cases q : j + 1 = i
    · right
      intro hc
      exact h3 ⟨q, cV_cat2 hc⟩
    · left; exact q
theorem Lx.set2 {γ : Int → Nat} {nL : Nat} {ls : Lcs} {la : Array Slot} {i : Nat} {x : Int} (h : lv_has la nL ((i, cV γ (vL x)) :: (lpairs γ ls).filter (fun q => !(q.1 == i) && (!(q.1 == i + 1) && !(q.1 + 1 == i && q.2.category == 2))))) : Lx γ nL (stl ls i (vL x)) la := by
  refine ⟨h.1, h.2.1, fun j w hw => ?_⟩
  rcases stl_at hw with ⟨e1, e2⟩ | ⟨h1, h2, h3, h4⟩
  · subst e1; subst e2; exact h.2.2 (j, cV γ _) List.mem_cons_self
  · refine h.2.2 (j, cV γ w) (List.mem_cons_of_mem _ (List.mem_filter.mpr ⟨lpairs_mem.mpr ⟨w, h2, rfl⟩, ?_⟩))
    simp only [Bool.and_eq_true, Bool.not_eq_true', beq_eq_false_iff_ne, ne_eq, Bool.and_eq_false_iff]
    refine ⟨h1, fun q => h4 ⟨q, x, rfl⟩, ?_⟩
    by_cases q : j + 1 = i
    · right
      intro hc
      exact h3 ⟨q, cV_cat2 hc⟩
    · left; exact q
theorem stl_wt {P : V → Prop} {ls : Lcs} {i : Nat} {v : V} (h : ∀ (i : Nat) (v : V), ls[i]? = some (some v) → P v) (hv : P v) : ∀ (j : Nat) (w : V), (stl ls i v)[j]? = some (some w) → P w := by
  intro j w hw
  rcases stl_at hw with ⟨e1, e2⟩ | ⟨h1, h2, h3, h4⟩
  · subst e2; exact hv
  · exact h j w h2
section
variable {g : G} {k pc : Nat} {ls : Lcs} {st : List V} {n : Int} {h : Mem} {Q : Out → Int → Mem → Prop} {x y z : Int} {v w u : V}
/-- a load, by its row -/
theorem T_load {len i : Nat} (hl : ls[i]? = some (some v)) (row : ∀ (γ : Int → Nat) (p : Program) (l : Launch) (e : Env) (R : Room) (s : State) (m : MethodId) (args : Array Value) (below : List Frame) (meth : Method) (c : Code) (H : Heap) (locs : List Loc) (cells slots : Nat) (Qq : State → Prop) (la : Array Slot),
    p.tables.exec = Jvm.exec → c.code = mC k → la[i]? = some (.val (cV γ v)) → W p l e R s m args below meth c H locs cells slots Qq (F0 m (pc + len) la (cV γ v :: st.map (cV γ))) → W p l e R s m args below meth c H locs cells slots Qq (F0 m pc la (st.map (cV γ))))
    (kk : T_at g k (pc + len) ls (v :: st) n h Q) : T_at g k pc ls st n h Q :=
  fun p l e R s m args below meth c D dA A γ0 n0 γ H locs cells slots la hB hL hwl hws => row γ p l.1 e R s m args below meth c H locs cells slots _ la hB.1.1 hB.1.2.1 (hL.2.2 i v hl) (kk p l e R s m args below meth c D dA A γ0 n0 γ H locs cells slots la hB hL hwl (fun u hu => by
    rcases List.mem_cons.mp hu with e | e
    · rw [e]; exact hwl i v hl
    · exact hws u e))
theorem T_iload {i : Nat} (hd : decode (mC k) pc = .ok (.iload i, 2)) (hl : ls[i]? = some (some (vI x))) (kk : T_at g k (pc + 2) ls (vI x :: st) n h Q) : T_at g k pc ls st n h Q :=
  T_load hl (fun γ p l e R s m args below meth c H locs cells slots Qq la hx hb hla kk => lv_iload hx hb hd hla kk) kk
theorem T_iload_n {i : Fin 4} (hd : decode (mC k) pc = .ok (.iload_n i, 1)) (hl : ls[(i : Nat)]? = some (some (vI x))) (kk : T_at g k (pc + 1) ls (vI x :: st) n h Q) : T_at g k pc ls st n h Q :=
  T_load hl (fun γ p l e R s m args below meth c H locs cells slots Qq la hx hb hla kk => lv_iload_n hx hb hd rfl hla kk) kk
theorem T_lload {i : Nat} (hd : decode (mC k) pc = .ok (.lload i, 2)) (hl : ls[i]? = some (some (vL x))) (kk : T_at g k (pc + 2) ls (vL x :: st) n h Q) : T_at g k pc ls st n h Q :=
  T_load hl (fun γ p l e R s m args below meth c H locs cells slots Qq la hx hb hla kk => lv_lload hx hb hd hla kk) kk
theorem T_lload_n {i : Fin 4} (hd : decode (mC k) pc = .ok (.lload_n i, 1)) (hl : ls[(i : Nat)]? = some (some (vL x))) (kk : T_at g k (pc + 1) ls (vL x :: st) n h Q) : T_at g k pc ls st n h Q :=
  T_load hl (fun γ p l e R s m args below meth c H locs cells slots Qq la hx hb hla kk => lv_lload_n hx hb hd rfl hla kk) kk
theorem T_aload {i d : Nat} (hd : decode (mC k) pc = .ok (.aload i, 2)) (hl : ls[i]? = some (some (vR d x))) (kk : T_at g k (pc + 2) ls (vR d x :: st) n h Q) : T_at g k pc ls st n h Q :=
  T_load hl (fun γ p l e R s m args below meth c H locs cells slots Qq la hx hb hla kk => by
    by_cases q : x = 0
    · have e1 : cV γ (vR d x) = .null := by show cR γ x = _; unfold cR; rw [if_pos q]
      rw [e1] at hla kk
      exact lv_aloadN hx hb hd hla kk
    · have e1 : cV γ (vR d x) = .ref (γ x) := by show cR γ x = _; unfold cR; rw [if_neg q]
      rw [e1] at hla kk
      exact lv_aload hx hb hd hla kk) kk
theorem T_aload_n {i : Fin 4} {d : Nat} (hd : decode (mC k) pc = .ok (.aload_n i, 1)) (hl : ls[(i : Nat)]? = some (some (vR d x))) (kk : T_at g k (pc + 1) ls (vR d x :: st) n h Q) : T_at g k pc ls st n h Q :=
  T_load hl (fun γ p l e R s m args below meth c H locs cells slots Qq la hx hb hla kk => by
    by_cases q : x = 0
    · have e1 : cV γ (vR d x) = .null := by show cR γ x = _; unfold cR; rw [if_pos q]
      rw [e1] at hla kk
      exact lv_aload_nN hx hb hd rfl hla kk
    · have e1 : cV γ (vR d x) = .ref (γ x) := by show cR γ x = _; unfold cR; rw [if_neg q]
      rw [e1] at hla kk
      exact lv_aload_n hx hb hd rfl hla kk) kk
/-- a store, by its row -/
theorem T_store {len i : Nat} (hi : ls.length = mL k → True) (row : ∀ (γ : Int → Nat) (p : Program) (l : Launch) (e : Env) (R : Room) (s : State) (m : MethodId) (args : Array Value) (below : List Frame) (meth : Method) (c : Code) (H : Heap) (locs : List Loc) (cells slots : Nat) (Qq : State → Prop) (la : Array Slot),
    p.tables.exec = Jvm.exec → c.code = mC k → Lx γ (mL k) ls la → (∀ la', Lx γ (mL k) (stl ls i v) la' → W p l e R s m args below meth c H locs cells slots Qq (F0 m (pc + len) la' (st.map (cV γ)))) → W p l e R s m args below meth c H locs cells slots Qq (F0 m pc la (cV γ v :: st.map (cV γ))))
    (kk : T_at g k (pc + len) (stl ls i v) st n h Q) : T_at g k pc ls (v :: st) n h Q :=
  fun p l e R s m args below meth c D dA A γ0 n0 γ H locs cells slots la hB hL hwl hws => row γ p l.1 e R s m args below meth c H locs cells slots _ la hB.1.1 hB.1.2.1 hL (fun la' hL' => kk p l e R s m args below meth c D dA A γ0 n0 γ H locs cells slots la' hB hL' (stl_wt hwl (hws v List.mem_cons_self)) (fun u hu => hws u (List.mem_cons_of_mem _ hu)))
theorem T_istore {i : Nat} (hd : decode (mC k) pc = .ok (.istore i, 2)) (hi : i < mL k) (kk : T_at g k (pc + 2) (stl ls i (vI x)) st n h Q) : T_at g k pc ls (vI x :: st) n h Q :=
  T_store (fun _ => trivial) (fun γ p l e R s m args below meth c H locs cells slots Qq la hx hb hL kk => lv_istore hx hb hd hL.has hi rfl (fun la' h' => kk la' (Lx.set1 (fun _ => by simp) h'))) kk
theorem T_istore_n {i : Fin 4} (hd : decode (mC k) pc = .ok (.istore_n i, 1)) (hi : (i : Nat) < mL k) (kk : T_at g k (pc + 1) (stl ls (i : Nat) (vI x)) st n h Q) : T_at g k pc ls (vI x :: st) n h Q :=
  T_store (fun _ => trivial) (fun γ p l e R s m args below meth c H locs cells slots Qq la hx hb hL kk => lv_istore_n hx hb hd rfl hL.has hi rfl (fun la' h' => kk la' (Lx.set1 (fun _ => by simp) h'))) kk
theorem T_lstore {i : Nat} (hd : decode (mC k) pc = .ok (.lstore i, 2)) (hi : i + 1 < mL k) (kk : T_at g k (pc + 2) (stl ls i (vL x)) st n h Q) : T_at g k pc ls (vL x :: st) n h Q :=
  T_store (fun _ => trivial) (fun γ p l e R s m args below meth c H locs cells slots Qq la hx hb hL kk => lv_lstore hx hb hd hL.has hi rfl (fun la' h' => kk la' (Lx.set2 h'))) kk
theorem T_lstore_n {i : Fin 4} (hd : decode (mC k) pc = .ok (.lstore_n i, 1)) (hi : (i : Nat) + 1 < mL k) (kk : T_at g k (pc + 1) (stl ls (i : Nat) (vL x)) st n h Q) : T_at g k pc ls (vL x :: st) n h Q :=
  T_store (fun _ => trivial) (fun γ p l e R s m args below meth c H locs cells slots Qq la hx hb hL kk => lv_lstore_n hx hb hd rfl hL.has hi rfl (fun la' h' => kk la' (Lx.set2 h'))) kk
theorem T_astore {i d : Nat} (hd : decode (mC k) pc = .ok (.astore i, 2)) (hi : i < mL k) (kk : T_at g k (pc + 2) (stl ls i (vR d x)) st n h Q) : T_at g k pc ls (vR d x :: st) n h Q :=
  T_store (fun _ => trivial) (fun γ p l e R s m args below meth c H locs cells slots Qq la hx hb hL kk => by
    by_cases q : x = 0
    · have e1 : cV γ (vR d x) = .null := by show cR γ x = _; unfold cR; rw [if_pos q]
      rw [e1]
      exact lv_astoreN hx hb hd hL.has hi rfl (fun la' h' => kk la' (Lx.set1 (fun _ => by simp) (by rw [e1]; exact h')))
    · have e1 : cV γ (vR d x) = .ref (γ x) := by show cR γ x = _; unfold cR; rw [if_neg q]
      rw [e1]
      exact lv_astore hx hb hd hL.has hi rfl (fun la' h' => kk la' (Lx.set1 (fun _ => by simp) (by rw [e1]; exact h')))) kk
theorem T_astore_n {i : Fin 4} {d : Nat} (hd : decode (mC k) pc = .ok (.astore_n i, 1)) (hi : (i : Nat) < mL k) (kk : T_at g k (pc + 1) (stl ls (i : Nat) (vR d x)) st n h Q) : T_at g k pc ls (vR d x :: st) n h Q :=
  T_store (fun _ => trivial) (fun γ p l e R s m args below meth c H locs cells slots Qq la hx hb hL kk => by
    by_cases q : x = 0
    · have e1 : cV γ (vR d x) = .null := by show cR γ x = _; unfold cR; rw [if_pos q]
      rw [e1]
      exact lv_astore_nN hx hb hd rfl hL.has hi rfl (fun la' h' => kk la' (Lx.set1 (fun _ => by simp) (by rw [e1]; exact h')))
    · have e1 : cV γ (vR d x) = .ref (γ x) := by show cR γ x = _; unfold cR; rw [if_neg q]
      rw [e1]
      exact lv_astore_n hx hb hd rfl hL.has hi rfl (fun la' h' => kk la' (Lx.set1 (fun _ => by simp) (by rw [e1]; exact h')))) kk
end
