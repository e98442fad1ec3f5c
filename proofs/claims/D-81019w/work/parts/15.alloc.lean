set_option maxRecDepth 100000
theorem arrV_congr {c : ClassId} {N : Nat} {f f' : Nat → Value} (h : ∀ j, j < N → f j = f' j) : arrV c N f = arrV c N f' := by
  unfold arrV
  congr 1
  apply Array.ext
  · simp
  · intro j h1 h2
    simp at h1
    simp [h j h1]
theorem wtv_mono {S : Shp} {n n' : Int} {t : Nat} {x : Int} (hn : n ≤ n') (h : wtv S n t x) : wtv S n' t x := by
  match t, h with
  | 0, h => exact h
  | 1, h => exact h
  | 2, h => exact h
  | 3, h => exact h
  | 4, h => exact h
  | 5, h => exact h
  | c + 6, h =>
    rcases h with h | h
    · exact Or.inl h
    · exact Or.inr (rfit_mono hn h)
theorem cS_eq {S : Shp} {γ γ' : Int → Nat} {n : Int} {t : Nat} {x : Int} (hg : ∀ a, a < n → γ' a = γ a) (h : wtv S n t x) : cS γ' t x = cS γ t x := by
  unfold cS
  split
  · rfl
  · split
    · rfl
    · match t, h with
      | 0, _ => omega
      | 1, _ => omega
      | 2, _ => omega
      | 3, _ => omega
      | 4, _ => omega
      | 5, _ => omega
      | c + 6, h =>
        refine cR_eq hg ?_
        rcases h with h | h
        · exact Or.inl h
        · exact Or.inr h.2.1
theorem slN_cons {S : Shp} {a b : Int} (h : a < b) : slN S a b = (S a).2 + slN S (a + 1) b := by
  unfold slN
  have e : (b - a).toNat = (b - (a + 1)).toNat + 1 := by omega
  rw [e, List.range_succ_eq_map, List.map_cons, List.sum_cons, List.map_map]
  congr 1
  · simp
  · congr 1
    refine List.map_congr_left fun i _ => ?_
    show (S (a + ((i + 1 : Nat) : Int))).2 = (S (a + 1 + (i : Int))).2
    congr 2
    omega
theorem clr_self (h : Mem) (a j : Int) : clr h a a j = 0 := by simp [clr]
theorem clr_ne {h : Mem} {a a' j : Int} (q : a' ≠ a) : clr h a a' j = h a' j := by simp [clr, q]
theorem wtv_0 (S : Shp) (n : Int) (t : Nat) : wtv S n t 0 := by
  match t with
  | 0 => exact i32_0
  | 1 => exact ⟨by omega, by omega⟩
  | 2 => exact ⟨by omega, by omega⟩
  | 3 => exact ⟨by omega, by omega⟩
  | 4 => exact ⟨by omega, by omega⟩
  | 5 => exact ⟨by omega, by omega⟩
  | c + 6 => exact Or.inl rfl
theorem sk99 {g : G} (hG : Gok g) {a : Int} (h1 : SB ≤ a) (h2 : a < g.2.1) (h3 : ¬ (g.1 a).1 < 40) : sk (g.1 a).1 0 ≠ 99 := by
  rcases hG.1 a h1 h2 with h | h
  · omega
  · have : (g.1 a).1 = 40 ∨ (g.1 a).1 = 41 ∨ (g.1 a).1 = 42 ∨ (g.1 a).1 = 43 ∨ (g.1 a).1 = 44 ∨ (g.1 a).1 = 45 ∨ (g.1 a).1 = 46 ∨ (g.1 a).1 = 47 ∨ (g.1 a).1 = 48 := by omega
    rcases this with e | e | e | e | e | e | e | e | e <;> rw [e] <;> decide
/-- a new cell -/
theorem Mx.grow {g : G} {D : va_G} {dA : Nat → ClassId} {γ : Int → Nat} {A : Nat → Prop} {n : Int} {h : Mem} {H H' : Heap} (hG : Gok g) (hM : Mx g D dA γ A n h H) (hn : n < g.2.1) (hz : H'.size = H.size + 1) (hq : ∀ q : Nat, q < H.size → H'[q]? = H[q]?) (hA : ∀ q : Nat, H.size ≤ q → A q) (hf : ∀ j, g.2.2 (g.1 n).1 j = none)
    (hc : Cl D dA g.1 (fun a => if a = n then H.size else γ a) (clr h n) H' n) : Mx g D dA (fun a => if a = n then H.size else γ a) A (n + 1) (clr h n) H' := by
  obtain ⟨h1, h2, h3, h4, h5, h6, h7⟩ := hM
  have hγ : ∀ a, a < n → (fun a => if a = n then H.size else γ a) a = γ a := fun a ha => by
    show (if a = n then H.size else γ a) = γ a
    rw [if_neg (by omega)]
  have hγn : (fun a => if a = n then H.size else γ a) n = H.size := by
    show (if n = n then H.size else γ n) = H.size
    rw [if_pos rfl]
  refine ⟨by omega, by omega, h3, fun a ha hb => ?_, fun a b ha hb hc' hd' e => ?_, fun a ha hb j hj hne => ?_, fun a j v ha hb e => ?_⟩
  · by_cases q : a = n
    · subst q
      refine ⟨hc, ?_, ?_⟩
      · rw [hγn]; exact hA _ (Nat.le_refl _)
      · rw [hγn, hz]; omega
    · have hlt : a < n := by omega
      obtain ⟨k1, k2, k3⟩ := h4 a ha hlt
      refine ⟨?_, by rw [hγ a hlt]; exact k2, by rw [hγ a hlt, hz]; omega⟩
      unfold Cl at k1 ⊢
      rw [hγ a hlt, hq _ k3]
      split
      · rename_i hk
        rw [if_pos hk] at k1
        obtain ⟨cell, g1, g2, g3, g4, g5⟩ := k1
        refine ⟨cell, g1, g2, g3, g4, fun j hj hne => ?_⟩
        rw [clr_ne q, cS_eq (n := n) hγ (h6 a ha hlt j hj hne)]
        exact g5 j hj hne
      · rename_i hk
        rw [if_neg hk] at k1
        rw [k1]
        congr 1
        refine arrV_congr fun j hj => ?_
        have h9 : sk (g.1 a).1 j = sk (g.1 a).1 0 := by unfold sk; rw [if_neg hk, if_neg hk]
        have := h6 a ha hlt j hj (by rw [h9]; exact sk99 hG ha (by omega) hk)
        rw [h9] at this
        rw [clr_ne q, cS_eq (n := n) hγ this]
  · by_cases q1 : a = n
    · by_cases q2 : b = n
      · omega
      · exfalso
        subst q1
        have := (h4 b hc' (by omega)).2.2
        rw [hγn, hγ b (by omega)] at e
        omega
    · by_cases q2 : b = n
      · exfalso
        subst q2
        have := (h4 a ha (by omega)).2.2
        rw [hγn, hγ a (by omega)] at e
        omega
      · rw [hγ a (by omega), hγ b (by omega)] at e
        exact h5 a b ha (by omega) hc' (by omega) e
  · by_cases q : a = n
    · subst q; rw [clr_self]; exact wtv_0 _ _ _
    · rw [clr_ne q]; exact wtv_mono (by omega) (h6 a ha (by omega) j hj hne)
  · by_cases q : a = n
    · subst q; rw [hf j] at e; cases e
    · rw [clr_ne q]; exact h7 a j v ha (by omega) e
theorem va_S.push {A : Nat → Prop} {H0 H H1 : Heap} {locs : List Loc} (h : va_S A H0 H locs) (hz : H1.size = H.size + 1) (hk : ∀ q : Nat, q < H.size → H1[q]? = H[q]?) : va_S A H0 H1 locs :=
  ⟨by rw [hz]; have := h.1; omega, fun q h1 h2 => by rw [hk q (Nat.lt_of_lt_of_le h1 h.1)]; exact h.2.1 q h1 h2, h.2.2⟩
theorem tc_obj (C : String) : 6 ≤ tcode (.object C) := by
  unfold tcode
  split <;> first | omega | simp_all
theorem tc_arr (ty : FieldType) : 6 ≤ tcode (.array ty) := by
  unfold tcode
  split <;> first | omega | simp_all
theorem def_tc (ty : FieldType) (h : tcode ty ≠ 99) (γ : Int → Nat) : cS γ (tcode ty) 0 = defaultValue ty := by
  cases ty with
  | object C =>
    have := tc_obj C
    unfold cS; rw [if_neg (by omega), if_neg (by omega)]; rfl
  | array t =>
    have := tc_arr t
    unfold cS; rw [if_neg (by omega), if_neg (by omega)]; rfl
  | float => exact absurd rfl h
  | double => exact absurd rfl h
  | _ => rfl
section
variable {g : G} {k pc : Nat} {ls : Lcs} {st0 : List V} {n : Int} {h : Mem} {Q : Out → Int → Mem → Prop} {x y z o i : Int} {v w u : V}
/-- the end of every making of a cell -/
theorem fin_new {p : Program} {l : Lch} {e : Env} {R : Room} {s : State} {m : MethodId} {args : Array Value} {below : List Frame} {meth : Method} {cc : Code} {D : va_G} {dA : Nat → ClassId} {A : Nat → Prop} {γ0 : Int → Nat} {n0 : Int} {γ : Int → Nat} {H : Heap} {locs : List Loc} {cells slots : Nat} {la : Array Slot} {kd pc' N : Nat}
    (hG : Gok g) (hB : Bx g k p R s m meth cc D dA A γ0 n0 γ n h H locs cells slots) (hL : Lx γ (mL k) ls la) (hwl : ∀ (i : Nat) (v : V), ls[i]? = some (some v) → wtV g.1 n v) (hws : ∀ v ∈ st0, wtV g.1 n v) (hn : n < g.2.1) (hS : g.1 n = (kd, N)) (hk39 : kd ≠ 39) (hf : ∀ j, g.2.2 kd j = none)
    (kk : T_at g k pc' ls (vR (2 * kd + 1) n :: st0) (n + 1) (clr h n) Q) {H' : Heap} (hz : H'.size = H.size + 1) (hq : ∀ q : Nat, q < H.size → H'[q]? = H[q]?) (hc : Cl D dA g.1 (fun a => if a = n then H.size else γ a) (clr h n) H' n) :
    W p l.1 e R s m args below meth cc H' locs (cells + 1) (slots + N) (Zq g D dA γ0 A n0 Q R below s) (F0 m pc' la (.ref H.size :: st0.map (cV γ))) := by
  have hM := hB.mx
  have hγ : ∀ a, a < n → (fun a => if a = n then H.size else γ a) a = γ a := fun a ha => by
    show (if a = n then H.size else γ a) = γ a
    rw [if_neg (by omega)]
  have hSB : SB ≤ n := hM.1
  have hM' := hM.grow hG hn hz hq (fun q hq' => hB.2.2.1.2.2 q (Nat.le_trans hB.2.2.1.2.1.1 hq')) (by rw [hS]; exact hf) hc
  have hsl := slN_cons (S := g.1) hn
  rw [hS] at hsl
  have hR3 := hB.2.1.2.2.1
  have hR4 := hB.2.1.2.2.2
  have hB' : Bx g k p R s m meth cc D dA A γ0 n0 (fun a => if a = n then H.size else γ a) (n + 1) (clr h n) H' locs (cells + 1) (slots + N) :=
    ⟨hB.1, ⟨hB.2.1.1, hB.2.1.2.1, by omega, by omega⟩, ⟨hB.2.2.1.1, va_S.push hB.2.2.1.2.1 hz hq, hB.2.2.1.2.2⟩, hB.2.2.2.1, by have := hB.2.2.2.2.1; omega, fun a ha => by
      have := hB.2.2.2.2.1
      rw [hγ a (by omega)]; exact hB.2.2.2.2.2.1 a ha, hM'⟩
  have K := kk p l e R s m args below meth cc D dA A γ0 n0 (fun a => if a = n then H.size else γ a) H' locs (cells + 1) (slots + N) la hB' (hL.to hγ hwl) (fun i v hv => wtV_mono (by omega) (hwl i v hv)) (fun u hu => by
    rcases List.mem_cons.mp hu with e | e
    · rw [e]
      refine Or.inr ⟨by have : (17 : Int) ≤ n := hSB; omega, by omega, ?_⟩
      have e2 : (2 * kd + 1) / 2 = kd := by omega
      rw [e2, if_neg hk39, hS]
    · exact wtV_mono (by omega) (hws u e))
  have e1 : (vR (2 * kd + 1) n :: st0).map (cV (fun a => if a = n then H.size else γ a)) = .ref H.size :: st0.map (cV γ) := by
    rw [List.map_cons, map_cV hγ hws]
    show cR (fun a => if a = n then H.size else γ a) n :: _ = _
    unfold cR
    rw [if_neg (by have : (17 : Int) ≤ n := hSB; omega)]
    show Value.ref (if n = n then H.size else γ n) :: _ = _
    rw [if_pos rfl]
  rw [e1] at K
  exact K
theorem T_new {idx c : Nat} (hG : Gok g) (hd : decode (mC k) pc = .ok (.new idx, 3)) (hc : c < 18) (hl : (Cond.classLink (mY k).cls idx (clR c)) ∈ lw_mv) (hi : (Cond.instantiable (clR c) (clN c)) ∈ lw_mv) (hin : (Cond.initialized (clR c)) ∈ lw_mv) (hn : n < g.2.1) (hS : g.1 n = (c, clN c)) (hf : ∀ j, g.2.2 c j = none)
    (kk : T_at g k (pc + 3) ls (vR (2 * c + 1) n :: st0) (n + 1) (clr h n) Q) : T_at g k pc ls st0 n h Q := by
  intro p l e R s m args below meth cc D dA A γ0 n0 γ H locs cells slots la hB hL hwl hws
  have hTs : Tx s := hB.2.2.1.1.1
  have hKs : Kx D dA s := hB.2.2.1.1.2.1
  have hKn := hKs.1.1 c _ (vwCl_at hc)
  have hsl := slN_cons (S := g.1) hn
  rw [hS] at hsl
  have hR3 := hB.2.1.2.2.1
  have hR4 := hB.2.1.2.2.2
  refine W.newcK hB.1.1 hB.1.2.1 hB.1.2.2.2.2.2.1 (hTs.use hl args) (hTs.use hi args) (hTs.use hin args) rfl hd (by omega) (by omega) hKn.2.1 rfl fun H1 kC hkC e1 z1 o1 => ?_
  refine fin_new hG hB hL hwl hws hn hS (by omega) hf kk z1 o1 ?_
  have hborn := u_born (clTy c) (hTs.all args) (cl_in c hc) hKn hkC e1 (cl_ty c hc)
  obtain ⟨cell, b1, b2, b3, b4⟩ := hborn
  have hcell : cell = blank (D.1 c) kC := Option.some.inj (b1.symm.trans e1)
  unfold Cl
  rw [hS, if_pos (show c < 40 by omega)]
  refine ⟨cell, ?_, b2, b3, by rw [hcell]; exact ⟨rfl, rfl, fun j hj => by rw [← hcell]; exact k2_hasslot (b4 j hj)⟩, fun j hj hne => ?_⟩
  · show H1[if n = n then H.size else γ n]? = _
    rw [if_pos rfl]; exact b1
  · show cell.slots[D.2 c j]? = some (cS _ (sk c j) (clr h n n j))
    rw [b4 j hj, clr_self, sk_ty c hc j hj]
    congr 1
    exact (def_tc _ (by rw [← sk_ty c hc j hj]; exact hne) _).symm
end
