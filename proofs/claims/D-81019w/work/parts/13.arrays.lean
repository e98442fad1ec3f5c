set_option maxRecDepth 100000
theorem sc_rng (a j : Int) : 0 ≤ sc a j ∧ sc a j ≤ 22594 := by
  have h : ∀ l ∈ scT, ∀ v ∈ l, 0 ≤ v ∧ v ≤ 22594 := by decide +kernel
  unfold sc
  cases h1 : scT[a.toNat]? with
  | none => simp [List.getD, h1]
  | some l =>
    cases h2 : l[j.toNat]? with
    | none => simp [List.getD, h1, h2]
    | some v =>
      have := h l (List.mem_of_getElem? h1) v (List.mem_of_getElem? h2)
      simpa [List.getD, h1, h2] using this
section
variable {g : G} {k pc : Nat} {ls : Lcs} {st0 : List V} {n : Int} {h : Mem} {Q : Out → Int → Mem → Prop} {x y z o i : Int} {v w u : V}
theorem clamp_i {i : Int} (hi : i32 i) (h0 : 0 ≤ i) : (Int32.ofInt i).toNatClampNeg = i.toNat := by
  have := i32_to hi
  unfold Int32.toNatClampNeg
  rw [this]
theorem in_i {i : Int} {N : Nat} (hi : i32 i) (h0 : 0 ≤ i) (h1 : i < N) : ¬ (Int32.ofInt i < 0 ∨ N ≤ (Int32.ofInt i).toNatClampNeg) := by
  rw [clamp_i hi h0]
  rintro (q | q)
  · have := (i32_lt hi i32_0).mp q; omega
  · omega
theorem stat_kind {a : Int} (h1 : 1 ≤ a) (h2 : a < SB) : (stS a).1 = 40 ∨ (stS a).1 = 48 ∨ (30 ≤ (stS a).1 ∧ (stS a).1 < 39) := by
  have : a = 1 ∨ a = 2 ∨ a = 3 ∨ a = 4 ∨ a = 5 ∨ a = 6 ∨ a = 7 ∨ a = 8 ∨ a = 9 ∨ a = 10 ∨ a = 11 ∨ a = 12 ∨ a = 13 ∨ a = 14 ∨ a = 15 ∨ a = 16 := by
    have : a < 17 := h2
    omega
  rcases this with e | e | e | e | e | e | e | e | e | e | e | e | e | e | e | e <;> (subst e; decide)
/-- an array's cell, wherever it lies -/
theorem Bx.arr {p : Program} {R : Room} {s : State} {m : MethodId} {meth : Method} {c : Code} {D : va_G} {dA : Nat → ClassId} {A : Nat → Prop} {γ0 : Int → Nat} {n0 : Int} {γ : Int → Nat} {H : Heap} {locs : List Loc} {cells slots : Nat} (hB : Bx g k p R s m meth c D dA A γ0 n0 γ n h H locs cells slots)
    {ak : Nat} (ha : 40 ≤ ak) (hb : ak < 49) (hf : rfit g.1 n ak x) : H[γ x]? = some (arrV (dA ak) (g.1 x).2 (fun j => cS γ (sk ak 0) (rd h x j))) ∧ (∀ j : Nat, j < (g.1 x).2 → wtv g.1 n (sk ak 0) (rd h x j)) ∧ (ak ≠ 40 → ak ≠ 48 → SB ≤ x) := by
  have hM := hB.mx
  obtain ⟨f1, f2, f3⟩ := hf
  have f1 : 1 ≤ x := by omega
  rw [if_neg (by omega)] at f3
  rcases Int.lt_or_le x SB with hlt | hge
  · obtain ⟨hC, hS, hA⟩ := hB.2.2.1
    have hγ : ∀ a, a < SB → γ a = γ0 a := fun a ha => hB.2.2.2.2.2.1 a (by have : SB ≤ n0 := hB.2.2.2.1; omega)
    have h4 := hC.2.2.2.1 x ⟨by omega, by omega⟩ hlt
    have h5 := hC.2.2.2.2 x ⟨by omega, by omega⟩ hlt
    have e3 : g.1 x = stS x := hM.2.2.1 x hlt
    rw [e3] at f3 ⊢
    unfold Cl at h5
    rw [f3, if_neg (by omega)] at h5
    have hk := stat_kind f1 hlt
    rw [f3] at hk
    refine ⟨?_, ?_, fun q1 q2 => by omega⟩
    · rw [hγ x hlt, hS.2.1 _ h4.2 h4.1, h5]
      congr 2
      funext j
      have e5 : rd h x j = sc x j := by unfold rd; rw [if_pos hlt]
      rw [e5]
      have hj := sc_rng x j
      unfold cS
      rcases hk with q | q | q
      · subst q; rfl
      · subst q
        show (if (45:Nat) = 5 then _ else if (45:Nat) < 5 then _ else _) = (if (45:Nat) = 5 then _ else if (45:Nat) < 5 then _ else _)
        rw [if_neg (by omega), if_neg (by omega), if_neg (by omega), if_neg (by omega)]
        have hx10 : x = 10 := by
          have : x = 1 ∨ x = 2 ∨ x = 3 ∨ x = 4 ∨ x = 5 ∨ x = 6 ∨ x = 7 ∨ x = 8 ∨ x = 9 ∨ x = 10 ∨ x = 11 ∨ x = 12 ∨ x = 13 ∨ x = 14 ∨ x = 15 ∨ x = 16 := by
            have : x < 17 := hlt
            omega
          rcases this with e | e | e | e | e | e | e | e | e | e | e | e | e | e | e | e <;> (subst e; first | rfl | (exact absurd f3 (by decide)))
        subst hx10
        have : sc 10 j < SB := by
          show (([11, 12, 13, 14] : List Int).getD _ 0) < 17
          match (j : Int).toNat with
          | 0 => decide
          | 1 => decide
          | 2 => decide
          | 3 => decide
          | n + 4 => simp
        unfold cR
        rw [hγ _ this]
      · omega
    · intro j hj
      have e5 : rd h x j = sc x j := by unfold rd; rw [if_pos hlt]
      rw [e5]
      have hr := sc_rng x j
      rcases hk with q | q | q
      · subst q; show i32 _; unfold i32; omega
      · subst q
        have hx10 : x = 10 := by
          have : x = 1 ∨ x = 2 ∨ x = 3 ∨ x = 4 ∨ x = 5 ∨ x = 6 ∨ x = 7 ∨ x = 8 ∨ x = 9 ∨ x = 10 ∨ x = 11 ∨ x = 12 ∨ x = 13 ∨ x = 14 ∨ x = 15 ∨ x = 16 := by
            have : x < 17 := hlt
            omega
          rcases this with e | e | e | e | e | e | e | e | e | e | e | e | e | e | e | e <;> (subst e; first | rfl | (exact absurd f3 (by decide)))
        subst hx10
        show sc 10 j = 0 ∨ rfit g.1 n 39 (sc 10 j)
        right
        have hj4 : j < 4 := hj
        have hn : SB ≤ n := hM.1
        have e7 : ∀ a : Int, a < SB → g.1 a = stS a := hM.2.2.1
        have : j = 0 ∨ j = 1 ∨ j = 2 ∨ j = 3 := by omega
        rcases this with e | e | e | e <;> subst e <;> (refine ⟨by decide, ?_, ?_⟩ <;> first | (exact Int.lt_of_lt_of_le (by decide) hn) | (rw [if_pos rfl, e7 _ (by decide)]; decide))
      · omega
  · have h8 := (hM.2.2.2.1 x hge f2).1
    unfold Cl at h8
    rw [f3, if_neg (by omega)] at h8
    have e5 : ∀ j : Int, rd h x j = h x j := fun j => by unfold rd; rw [if_neg (by omega)]
    refine ⟨?_, fun j hj => ?_, fun _ _ => hge⟩
    · rw [h8]; simp only [e5]
    · rw [e5]
      have := hM.2.2.2.2.2.1 x hge f2 j hj
      rw [f3] at this
      have e6 : sk ak j = sk ak 0 := by unfold sk; rw [if_neg (by omega), if_neg (by omega)]
      rw [e6] at this
      refine this ?_
      unfold sk; rw [if_neg (by omega)]
      have : ak = 40 ∨ ak = 41 ∨ ak = 42 ∨ ak = 43 ∨ ak = 44 ∨ ak = 45 ∨ ak = 46 ∨ ak = 47 ∨ ak = 48 := by omega
      rcases this with e | e | e | e | e | e | e | e | e <;> subst e <;> decide
theorem sk_arr {ak : Nat} (ha : 40 ≤ ak) (hb : ak < 49) : ∀ j, sk ak j = sk ak 0 := fun j => by unfold sk; rw [if_neg (by omega), if_neg (by omega)]
theorem e_ref {γ : Int → Nat} {d : Nat} {x : Int} {st0 : List V} (hx : x ≠ 0) : cV γ (vR d x) :: st0.map (cV γ) = .ref (γ x) :: st0.map (cV γ) := by
  show cR γ x :: _ = _; unfold cR; rw [if_neg hx]
/-- loads of arrays; the row is the machine's own -/
theorem T_ald {ak d : Nat} {ins : Instr} (ha : 40 ≤ ak) (hb : ak < 49) (hdc : d / 2 = ak) (hx : x ≠ 0) (h0 : 0 ≤ i) (h1 : i < (g.1 x).2)
    (row : ∀ (γ : Int → Nat) (p : Program) (l : Launch) (e : Env) (R : Room) (s : State) (m : MethodId) (args : Array Value) (below : List Frame) (meth : Method) (c : Code) (H : Heap) (locs : List Loc) (cells slots : Nat) (Qq : State → Prop) (la : Array Slot) (cell : Cell) (v : Value), p.tables.exec = Jvm.exec → c.code = mC k → H[γ x]? = some cell → s.isArrayOf cell (aty ak) → cell.vm ≠ .unknown → ¬ (Int32.ofInt i < 0 ∨ cell.slots.size ≤ (Int32.ofInt i).toNatClampNeg) → cell.slots[(Int32.ofInt i).toNatClampNeg]? = some v →
      W p l e R s m args below meth c H locs cells slots Qq (F0 m (pc + 1) la (v :: st0.map (cV γ))) → W p l e R s m args below meth c H locs cells slots Qq (F0 m pc la (.int (Int32.ofInt i) :: .ref (γ x) :: st0.map (cV γ))))
    (kk : T_at g k (pc + 1) ls (gv (sk ak 0) (rd h x i) :: st0) n h Q) : T_at g k pc ls (vI i :: vR d x :: st0) n h Q := by
  intro p l e R s m args below meth cc D dA A γ0 n0 γ H locs cells slots la hB hL hwl hws
  have hi : i32 i := hws (vI i) (by simp)
  have hf := wt_fit (hws (vR d x) (by simp)) hdc hx
  obtain ⟨a1, a2, -⟩ := hB.arr ha hb hf
  have hKs : Kx D dA s := hB.2.2.1.1.2.1
  have ecl := clamp_i hi h0
  have hlt : i.toNat < (g.1 x).2 := by omega
  have ei : ((i.toNat : Nat) : Int) = i := by omega
  have e1 : (vI i :: vR d x :: st0).map (cV γ) = .int (Int32.ofInt i) :: .ref (γ x) :: st0.map (cV γ) := by rw [List.map_cons, List.map_cons, e_ref hx]; rfl
  rw [e1]
  refine row γ p l.1 e R s m args below meth cc H locs cells slots _ la _ (cV γ (gv (sk ak 0) (rd h x i))) hB.1.1 hB.1.2.1 a1 ((hKs.2.1 ak ha hb).1 _ _) (fun q => by cases q) ?_ ?_ ?_
  · rw [arrV_size]; exact in_i hi h0 h1
  · rw [ecl, arrV_read _ _ hlt, cV_gv, ei]
  · exact kk p l e R s m args below meth cc D dA A γ0 n0 γ H locs cells slots la hB hL hwl (fun u hu => by
      rcases List.mem_cons.mp hu with e | e
      · rw [e]; exact wtv_gv (by have := a2 i.toNat hlt; rw [ei] at this; exact this)
      · exact hws u (by simp [e]))
theorem T_iald {d : Nat} (hd : decode (mC k) pc = .ok (.iaload, 1)) (hdc : d / 2 = 40) (hx : x ≠ 0) (h0 : 0 ≤ i) (h1 : i < (g.1 x).2) (kk : T_at g k (pc + 1) ls (vI (rd h x i) :: st0) n h Q) : T_at g k pc ls (vI i :: vR d x :: st0) n h Q :=
  T_ald (ins := .iaload) (by decide) (by decide) hdc hx h0 h1 (fun γ p l e R s m args below meth c H locs cells slots Qq la cell v hx hb c1 c2 c3 c4 c5 kk => W.iald hx hb c1 c2 c3 c4 c5 rfl rfl hd kk) kk
theorem rd_dyn {a j : Int} (ha : SB ≤ a) : rd h a j = h a j := by unfold rd; rw [if_neg (by omega)]
/-- an array of a kind that no static has lies in the memory -/
theorem T_dyn {ak d : Nat} (ha : 40 ≤ ak) (hb : ak < 49) (hk0 : ak ≠ 40) (hk8 : ak ≠ 48) (hdc : d / 2 = ak) (hx : x ≠ 0) {stk : List V} (hmem : vR d x ∈ stk) (kk : SB ≤ x → T_at g k pc ls stk n h Q) : T_at g k pc ls stk n h Q := by
  intro p l e R s m args below meth cc D dA A γ0 n0 γ H locs cells slots la hB hL hwl hws
  exact kk ((hB.arr ha hb (wt_fit (hws _ hmem) hdc hx)).2.2 hk0 hk8) p l e R s m args below meth cc D dA A γ0 n0 γ H locs cells slots la hB hL hwl hws
theorem T_bald {d : Nat} (hd : decode (mC k) pc = .ok (.baload, 1)) (hdc : d / 2 = 41) (hx : x ≠ 0) (h0 : 0 ≤ i) (h1 : i < (g.1 x).2) (kk : T_at g k (pc + 1) ls (vI (h x i) :: st0) n h Q) : T_at g k pc ls (vI i :: vR d x :: st0) n h Q :=
  T_dyn (ak := 41) (by decide) (by decide) (by decide) (by decide) hdc hx (by simp) fun hs => T_ald (ins := .baload) (by decide) (by decide) hdc hx h0 h1 (fun γ p l e R s m args below meth c H locs cells slots Qq la cell v hx hb c1 c2 c3 c4 c5 kk => W.bald hx hb c1 c2 c3 c4 c5 rfl rfl hd kk) (by rw [rd_dyn hs]; exact kk)
theorem T_zald {d : Nat} (hd : decode (mC k) pc = .ok (.baload, 1)) (hdc : d / 2 = 44) (hx : x ≠ 0) (h0 : 0 ≤ i) (h1 : i < (g.1 x).2) (kk : T_at g k (pc + 1) ls (vI (h x i) :: st0) n h Q) : T_at g k pc ls (vI i :: vR d x :: st0) n h Q :=
  T_dyn (ak := 44) (by decide) (by decide) (by decide) (by decide) hdc hx (by simp) fun hs => T_ald (ins := .baload) (by decide) (by decide) hdc hx h0 h1 (fun γ p l e R s m args below meth c H locs cells slots Qq la cell v hx hb c1 c2 c3 c4 c5 kk => W.zald hx hb c1 c2 c3 c4 c5 rfl rfl hd kk) (by rw [rd_dyn hs]; exact kk)
theorem T_sald {d : Nat} (hd : decode (mC k) pc = .ok (.saload, 1)) (hdc : d / 2 = 42) (hx : x ≠ 0) (h0 : 0 ≤ i) (h1 : i < (g.1 x).2) (kk : T_at g k (pc + 1) ls (vI (h x i) :: st0) n h Q) : T_at g k pc ls (vI i :: vR d x :: st0) n h Q :=
  T_dyn (ak := 42) (by decide) (by decide) (by decide) (by decide) hdc hx (by simp) fun hs => T_ald (ins := .saload) (by decide) (by decide) hdc hx h0 h1 (fun γ p l e R s m args below meth c H locs cells slots Qq la cell v hx hb c1 c2 c3 c4 c5 kk => W.sald hx hb c1 c2 c3 c4 c5 rfl rfl hd kk) (by rw [rd_dyn hs]; exact kk)
theorem T_lald {d : Nat} (hd : decode (mC k) pc = .ok (.laload, 1)) (hdc : d / 2 = 43) (hx : x ≠ 0) (h0 : 0 ≤ i) (h1 : i < (g.1 x).2) (kk : T_at g k (pc + 1) ls (vL (h x i) :: st0) n h Q) : T_at g k pc ls (vI i :: vR d x :: st0) n h Q :=
  T_dyn (ak := 43) (by decide) (by decide) (by decide) (by decide) hdc hx (by simp) fun hs => T_ald (ins := .laload) (by decide) (by decide) hdc hx h0 h1 (fun γ p l e R s m args below meth c H locs cells slots Qq la cell v hx hb c1 c2 c3 c4 c5 kk => W.lald hx hb c1 c2 c3 c4 c5 rfl rfl hd kk) (by rw [rd_dyn hs]; exact kk)
theorem T_aald {d ak : Nat} (hd : decode (mC k) pc = .ok (.aaload, 1)) (ha : 45 ≤ ak) (hb : ak < 49) (hdc : d / 2 = ak) (hx : x ≠ 0) (h0 : 0 ≤ i) (h1 : i < (g.1 x).2) (kk : T_at g k (pc + 1) ls (gv (sk ak 0) (rd h x i) :: st0) n h Q) : T_at g k pc ls (vI i :: vR d x :: st0) n h Q :=
  T_ald (ins := .aaload) (by omega) hb hdc hx h0 h1 (fun γ p l e R s m args below meth c H locs cells slots Qq la cell v hx hb' c1 c2 c3 c4 c5 kk => W.aald hx hb' c1 c2 (by
    have : ak = 45 ∨ ak = 46 ∨ ak = 47 ∨ ak = 48 := by omega
    rcases this with e | e | e | e <;> subst e <;> rfl) c3 c4 c5 rfl rfl hd kk) kk
theorem T_alen {d ak : Nat} (hd : decode (mC k) pc = .ok (.arraylength, 1)) (ha : 40 ≤ ak) (hb : ak < 49) (hdc : d / 2 = ak) (hx : x ≠ 0) (hl : ((g.1 x).2 : Int) ≤ 2147483647) (kk : T_at g k (pc + 1) ls (vI ((g.1 x).2 : Int) :: st0) n h Q) : T_at g k pc ls (vR d x :: st0) n h Q := by
  intro p l e R s m args below meth cc D dA A γ0 n0 γ H locs cells slots la hB hL hwl hws
  have hf := wt_fit (hws (vR d x) (by simp)) hdc hx
  obtain ⟨a1, a2, -⟩ := hB.arr ha hb hf
  have hKs : Kx D dA s := hB.2.2.1.1.2.1
  rw [List.map_cons, e_ref hx]
  refine W.alen (n := Int32.ofInt ((g.1 x).2 : Int)) hB.1.1 hB.1.2.1 a1 ((hKs.2.1 ak ha hb).1 _ _) (by rw [arrV_size]; rfl) rfl rfl hd ?_
  exact kk p l e R s m args below meth cc D dA A γ0 n0 γ H locs cells slots la hB hL hwl (fun u hu => by
      rcases List.mem_cons.mp hu with e | e
      · rw [e]; show i32 _; unfold i32; omega
      · exact hws u (by simp [e]))
end
