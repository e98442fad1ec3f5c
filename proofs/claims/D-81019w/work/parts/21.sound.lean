set_option maxRecDepth 100000
theorem T_kn {g : G} {k pc : Nat} {ls : Lcs} {stk : List V} {n : Int} {h : Mem} {Q : Qt} (kk : (∀ v ∈ stk, wtV g.1 n v) → T_at g k pc ls stk n h Q) : T_at g k pc ls stk n h Q :=
  fun p l e R s m args below meth c D dA A γ0 n0 γ H locs cells slots la hB hL hwl hws => kk hws p l e R s m args below meth c D dA A γ0 n0 γ H locs cells slots la hB hL hwl hws
theorem T_mono {g : G} {k : Nat} {av : List V} {n : Int} {h : Mem} {Q Q' : Qt} (hT : T g k av n h Q) (hq : ∀ o n h, Q o n h → Q' o n h) : T g k av n h Q' := by
  intro l D dA γ A p e ha hc hk s m args below hf happ hP hK
  obtain ⟨n1, o, h1, h2, h3, o', n', h', γ', L, kc, ks, h4, h5⟩ := hT l D dA γ A p e ha hc hk s m args below hf happ hP hK
  exact ⟨n1, o, h1, h2, h3, o', n', h', γ', L, kc, ks, hq _ _ _ h4, h5⟩
theorem T_wt {g : G} {k : Nat} {av : List V} {n : Int} {h : Mem} {Q : Qt} (hT : (∀ v ∈ av, wtV g.1 n v) → T g k av n h Q) : T g k av n h Q := by
  intro l D dA γ A p e ha hc hk s m args below hf happ hP hK
  exact hT hP.2.2.2.2 l D dA γ A p e ha hc hk s m args below hf happ hP hK
theorem T_mem {g : G} {k : Nat} {av : List V} {n : Int} {h : Mem} {Q : Qt} (hT : (SB ≤ n ∧ n ≤ g.2.1 ∧ (∀ a : Int, SB ≤ a → a < n → ∀ j : Nat, j < (g.1 a).2 → sk (g.1 a).1 j ≠ 99 → wtv g.1 n (sk (g.1 a).1 j) (h a j)) ∧ (∀ (a : Int) (j : Nat) (d : Int), SB ≤ a → a < n → g.2.2 (g.1 a).1 j = some d → h a j = a + d)) → T g k av n h Q) : T g k av n h Q := by
  intro l D dA γ A p e ha hc hk s m args below hf happ hP hK
  have hM := hP.2.2.1
  exact hT ⟨hM.1, hM.2.1, hM.2.2.2.2.2.1, hM.2.2.2.2.2.2⟩ l D dA γ A p e ha hc hk s m args below hf happ hP hK
theorem lga_ok : ∀ {ls : Lcs} {i : Nat} {f : V → Prop}, lga ls i f → ∃ v, ls[i]? = some (some v) ∧ f v
  | [], _, _, h => h.elim
  | none :: _, 0, _, h => h.elim
  | some v :: _, 0, _, h => ⟨v, rfl, h⟩
  | none :: ls, i + 1, f, h => by obtain ⟨v, h1, h2⟩ := lga_ok (ls := ls) (i := i) h; exact ⟨v, by simpa using h1, h2⟩
  | some _ :: ls, i + 1, f, h => by obtain ⟨v, h1, h2⟩ := lga_ok (ls := ls) (i := i) h; exact ⟨v, by simpa using h1, h2⟩
theorem wds_eq : ∀ s : List V, (s.map (fun v => match v with | .inr (.inl _) => 2 | _ => 1)).sum = wds s
  | [] => rfl
  | .inl _ :: r => by rw [List.map_cons, List.sum_cons, wds_eq r]; rfl
  | .inr (.inl _) :: r => by rw [List.map_cons, List.sum_cons, wds_eq r]; rfl
  | .inr (.inr _) :: r => by rw [List.map_cons, List.sum_cons, wds_eq r]; rfl
theorem wds_rm {k k' : Nat} {r : List V} (h5 : mFR k' + 1 ≤ mFR k) (h6 : wds r + (mL k' + 11) + mLO k' ≤ mLO k) : Rm k k' r := ⟨h5, Nat.le_trans (Nat.add_le_add_right (Nat.add_le_add_right (Nat.le_of_eq (wds_eq r)) _) _) h6⟩
theorem kl1_eq (ls : Lcs) : ls.set 0 none = kl1 ls := by cases ls <;> rfl
theorem klp_two (a : Option V) (ls : Lcs) (i : Nat) : klp (a :: ls) (i + 2) = a :: klp ls (i + 1) := by
  simp only [klp, List.getElem?_cons_succ]
  rcases hq : ls[i]? with _ | (_ | (x | x | x)) <;> rfl
theorem stl_stq : ∀ (ls : Lcs) (i : Nat) (v : V), stl ls i v = stq ls i v
  | [], i, v => by
    rcases v with x | x | x <;> (simp only [stl, stq]; cases i <;> simp [klp])
  | a :: ls, 0, v => by
    rcases v with x | x | x
    · rfl
    · simp only [stl, stq, klp, List.set_cons_zero, List.set_cons_succ, kl1_eq]
    · rfl
  | a :: ls, 1, v => by
    have ih := stl_stq ls 0 v
    rcases a with _ | (y | y | y) <;> rcases v with x | x | x <;> simp_all [stl, stq, klp]
  | a :: ls, i + 2, v => by
    have ih := stl_stq ls (i + 1) v
    rcases v with x | x | x <;> simp_all [stl, stq, klp_two]
theorem pI_ok {s : List V} {f : Int → List V → Prop} (h : pI s f) : ∃ x r, s = vI x :: r ∧ f x r := by
  match s, h with
  | .inl x :: r, h => exact ⟨x, r, rfl, h⟩
theorem pL_ok {s : List V} {f : Int → List V → Prop} (h : pL s f) : ∃ x r, s = vL x :: r ∧ f x r := by
  match s, h with
  | .inr (.inl x) :: r, h => exact ⟨x, r, rfl, h⟩
theorem pR_ok {s : List V} {f : Nat → Int → List V → Prop} (h : pR s f) : ∃ d x r, s = vR d x :: r ∧ f d x r := by
  match s, h with
  | .inr (.inr (d, x)) :: r, h => exact ⟨d, x, r, rfl, h⟩
theorem pV_ok {s : List V} {f : V → List V → Prop} (h : pV s f) : ∃ x r, s = x :: r ∧ f x r := by
  match s, h with
  | x :: r, h => exact ⟨x, r, rfl, h⟩
theorem bI_ok {s : List V} {f : Int → Int → List V → Prop} (h : bI s f) : ∃ x y r, s = vI y :: vI x :: r ∧ f x y r := by
  obtain ⟨y, r, e, h⟩ := pI_ok h
  obtain ⟨x, r', e', h⟩ := pI_ok h
  exact ⟨x, y, r', by rw [e, e'], h⟩
theorem bL_ok {s : List V} {f : Int → Int → List V → Prop} (h : bL s f) : ∃ x y r, s = vL y :: vL x :: r ∧ f x y r := by
  obtain ⟨y, r, e, h⟩ := pL_ok h
  obtain ⟨x, r', e', h⟩ := pL_ok h
  exact ⟨x, y, r', by rw [e, e'], h⟩
theorem bS_ok {s : List V} {f : Int → Int → List V → Prop} (h : bS s f) : ∃ x y r, s = vI y :: vL x :: r ∧ f x y r := by
  obtain ⟨y, r, e, h⟩ := pI_ok h
  obtain ⟨x, r', e', h⟩ := pL_ok h
  exact ⟨x, y, r', by rw [e, e'], h⟩
theorem c1_ok : ∀ {v : V}, c1 v → (match v with | .inr (.inl _) => 2 | _ => 1 : Nat) = 1
  | .inl _, _ => rfl
  | .inr (.inl _), h => h.elim
  | .inr (.inr _), _ => rfl
theorem nn_ok {S : Shp} {n : Int} {d : Nat} {x : Int} (h : nn d x) (hw : wtV S n (vR d x)) : x ≠ 0 := by
  unfold nn at h
  split at h
  · rcases hw with q | q
    · omega
    · have := q.1; omega
  · exact h
theorem aE_ok {g : G} {ak : Nat} {s : List V} {f : Int → Int → List V → Prop} (h : aE g ak s f) : ∃ d a i r, s = vI i :: vR d a :: r ∧ d / 2 = ak ∧ nn d a ∧ 0 ≤ i ∧ i < ((g.1 a).2 : Int) ∧ f a i r := by
  obtain ⟨i, r, e, h⟩ := pI_ok h
  obtain ⟨d, a, r', e', h1, h2, h3, h4, h5⟩ := pR_ok h
  exact ⟨d, a, i, r', by rw [e, e'], h1, h2, h3, h4, h5⟩
theorem rtL_snoc : ∀ {ts : List Nat} {as ws : List V} {t : Nat} {v w : V}, rtL ts as = some ws → rt1 t v = some w → rtL (ts ++ [t]) (as ++ [v]) = some (ws ++ [w])
  | [], [], ws, t, v, w, h, h1 => by simp [rtL] at h; subst h; simp [rtL, h1]
  | t0 :: ts, v0 :: as, ws, t, v, w, h, h1 => by
    simp only [rtL] at h
    split at h
    · rename_i w0 ws' e1 e2
      simp at h; subst h
      simp [rtL, e1, rtL_snoc e2 h1]
    · simp at h
  | [], v0 :: as, ws, t, v, w, h, h1 => by simp [rtL] at h
  | t0 :: ts, [], ws, t, v, w, h, h1 => by simp [rtL] at h
theorem tkA_ok : ∀ {ts : List Nat} {s acc : List V} {f : List V → List V → Prop}, tkA ts s acc f → ∃ as0 as rest, s = as0.reverse ++ rest ∧ as0.length = ts.length ∧ rtL ts.reverse as0 = some as ∧ f (as ++ acc) rest
  | [], s, acc, f, h => ⟨[], [], s, rfl, rfl, rfl, h⟩
  | t :: ts, v :: s, acc, f, h => by
    simp only [tkA] at h
    split at h
    · rename_i w e
      obtain ⟨as0, as, rest, h1, h2, h3, h4⟩ := tkA_ok h
      refine ⟨as0 ++ [v], as ++ [w], rest, by simp [h1], by simp [h2], ?_, by simpa using h4⟩
      rw [List.reverse_cons]
      exact rtL_snoc h3 e
    · exact h.elim
  | _ :: _, [], _, _, h => h.elim
theorem pvq_ok {t : Nat} {v : V} {f : Int → Prop} (h : pvq t v f) : ∃ c x, pv t v = some (c, x) ∧ c ∧ f x := by
  unfold pvq at h
  split at h
  · split at h
    · exact ⟨_, _, rfl, trivial, h⟩
    · exact ⟨_, _, rfl, h.1, h.2⟩
    · exact ⟨_, _, rfl, h.1, h.2⟩
    · exact ⟨_, _, rfl, h.1, h.2⟩
    · exact h.elim
  · exact ⟨True, _, by simp [pv, h.1], trivial, h.2⟩
  · exact ⟨True, _, by simp [pv, h.1], trivial, h.2⟩
section
variable {g : G} {k o pc : Nat} {md : Bool} {Q : Qt} {J : Nat → Kt} {K : Kt}
theorem kX_kn {ls : Lcs} {r : List V} {hc : Nat} (hcov' : hc = hcn k pc) (hJ : ∀ t ls s n h, J t ls s n h → T_at g k t ls s n h Q) {a n : Int} {h : Mem} (hx : kX Q J ls hc a n h) : Kn g k pc ls r Q (.inr a) n h := by
  show (match hcov k pc with | none => Q (.inr a) n h | some t => T_at g k t ls [vR 35 a] n h Q)
  unfold hcn at hcov'
  split at hcov'
  · rename_i e; subst hcov'; rw [e]; exact hx
  · rename_i t e; subst hcov'; rw [e]; exact hJ _ _ _ _ _ hx
theorem kq_kn {ls : Lcs} {r : List V} {hc rt : Nat} (hcov' : hc = hcn k pc) (hJ : ∀ t ls s n h, J t ls s n h → T_at g k t ls s n h Q) (hK : ∀ ls s n h, K ls s n h → T_at g k (pc + 3) ls s n h Q) : ∀ (o : Out) (n : Int) (h : Mem), kq Q J K ls hc rt r o n h → Kn g k pc ls r Q o n h := by
  intro o n h hq
  unfold kq at hq
  split at hq
  · rcases o with (_ | (x | x | ⟨d, x⟩)) | a
    · exact hK _ _ _ _ hq
    · exact hq.elim
    · exact hq.elim
    · exact hq.elim
    · exact kX_kn hcov' hJ hq
  · rcases o with (_ | (x | x | ⟨d, x⟩)) | a
    · exact hq.elim
    · exact hK _ _ _ _ hq
    · exact hq.elim
    · exact hq.elim
    · exact kX_kn hcov' hJ hq
  · rcases o with (_ | (x | x | ⟨d, x⟩)) | a
    · exact hq.elim
    · exact hK _ _ _ _ hq
    · exact hq.elim
    · exact hq.elim
    · exact kX_kn hcov' hJ hq
  · rcases o with (_ | (x | x | ⟨d, x⟩)) | a
    · exact hq.elim
    · exact hq.elim
    · exact hK _ _ _ _ hq
    · exact hq.elim
    · exact kX_kn hcov' hJ hq
  · rcases o with (_ | (x | x | ⟨d, x⟩)) | a
    · exact hq.elim
    · exact hq.elim
    · exact hq.elim
    · have e := hq.1; subst e; exact hK _ _ _ _ hq.2
    · exact kX_kn hcov' hJ hq
end
