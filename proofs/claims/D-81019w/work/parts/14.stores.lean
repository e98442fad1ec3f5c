set_option maxRecDepth 100000
section
variable {g : G} {k pc : Nat} {ls : Lcs} {st0 : List V} {n : Int} {h : Mem} {Q : Out → Int → Mem → Prop} {x y z o i : Int} {v w u : V}
/-- the end of every array store -/
theorem fin_ast {p : Program} {l : Lch} {e : Env} {R : Room} {s : State} {m : MethodId} {args : Array Value} {below : List Frame} {meth : Method} {cc : Code} {D : va_G} {dA : Nat → ClassId} {A : Nat → Prop} {γ0 : Int → Nat} {n0 : Int} {γ : Int → Nat} {H : Heap} {locs : List Loc} {cells slots : Nat} {la : Array Slot} {ak pc' : Nat}
    (hB : Bx g k p R s m meth cc D dA A γ0 n0 γ n h H locs cells slots) (hL : Lx γ (mL k) ls la) (hwl : ∀ (i : Nat) (v : V), ls[i]? = some (some v) → wtV g.1 n v) (hws : ∀ v ∈ st0, wtV g.1 n v) (ha : 40 ≤ ak) (hb : ak < 49) (hf : rfit g.1 n ak x) (hs : SB ≤ x) (hi : i32 i) (h0 : 0 ≤ i) (h1 : i < (g.1 x).2)
    {yv : Int} (hy : wtv g.1 n (sk ak 0) yv) (hG : Gok g) (kk : T_at g k pc' ls st0 n (st h x i yv) Q) :
    ∀ H' : Heap, H'[γ x]? = some ((arrV (dA ak) (g.1 x).2 (fun j => cS γ (sk ak 0) (rd h x j))).setSlot (Int32.ofInt i).toNatClampNeg (cS γ (sk ak 0) yv)) → H'.size = H.size → (∀ q, q ≠ γ x → H'[q]? = H[q]?) → W p l.1 e R s m args below meth cc H' (locs ++ [⟨γ x, (Int32.ofInt i).toNatClampNeg⟩]) cells slots (Zq g D dA γ0 A n0 Q R below s) (F0 m pc' la (st0.map (cV γ))) := by
  intro H' e2 e3 e4
  have hM := hB.mx
  obtain ⟨f1, f2, f3⟩ := hf
  rw [if_neg (by omega)] at f3
  have ecl := clamp_i hi h0
  have ei : ((i.toNat : Nat) : Int) = i := by omega
  have hM' : Mx g D dA γ A n (st h x i yv) H' := by
    refine hM.upd hs f2 ?_ e3 e4 (fun a j hne => st_other (fun q => hne q.1)) ?_ ?_
    · unfold Cl
      rw [f3, if_neg (by omega), e2, ecl, arrV_store]
      congr 2
      funext j
      unfold updV
      by_cases q : j = i.toNat
      · rw [if_pos q, q, ei, st_same]
      · rw [if_neg q]
        show cS γ (sk ak 0) (rd h x j) = _
        rw [rd_dyn hs, st_other (fun z => q (by omega))]
    · intro j hj hne
      rw [f3] at hne ⊢
      rw [sk_arr ha hb j]
      by_cases q : (j : Int) = i
      · rw [q, st_same]; exact hy
      · rw [st_other (fun z => q z.2)]
        have := hM.2.2.2.2.2.1 x hs f2 j hj
        rw [f3, sk_arr ha hb j] at this
        rw [sk_arr ha hb j] at hne
        exact this hne
    · intro j w hw
      have := hG.2 _ j w hw; omega
  exact kk p l e R s m args below meth cc D dA A γ0 n0 γ H' (locs ++ [⟨γ x, (Int32.ofInt i).toNatClampNeg⟩]) cells slots la ⟨hB.1, hB.2.1, ⟨hB.2.2.1.1, va_S.put hB.2.2.1.2.1 e3 e4 (hM.2.2.2.1 x hs f2).2.1, hB.2.2.1.2.2⟩, hB.2.2.2.1, hB.2.2.2.2.1, hB.2.2.2.2.2.1, hM'⟩ hL hwl hws
theorem e_ast {γ : Int → Nat} {d : Nat} {x i : Int} {v : V} {st0 : List V} (hx : x ≠ 0) : (v :: vI i :: vR d x :: st0).map (cV γ) = cV γ v :: .int (Int32.ofInt i) :: .ref (γ x) :: st0.map (cV γ) := by rw [List.map_cons, List.map_cons, List.map_cons, e_ref hx]; rfl
theorem T_iast {d : Nat} (hd : decode (mC k) pc = .ok (.iastore, 1)) (hdc : d / 2 = 40) (hx : x ≠ 0) (hs : SB ≤ x) (h0 : 0 ≤ i) (h1 : i < (g.1 x).2) (hG : Gok g) (kk : T_at g k (pc + 1) ls st0 n (st h x i y) Q) : T_at g k pc ls (vI y :: vI i :: vR d x :: st0) n h Q := by
  intro p l e R s m args below meth cc D dA A γ0 n0 γ H locs cells slots la hB hL hwl hws
  have hi : i32 i := hws (vI i) (by simp)
  have hf := wt_fit (hws (vR d x) (by simp)) hdc hx
  have a1 := (hB.arr (by decide) (by decide) hf).1
  rw [e_ast hx]
  exact W.iast hB.1.1 hB.1.2.1 a1 ((hB.2.2.1.1.2.1.2.1 40 (by decide) (by decide)).1 _ _) (fun q => by cases q) (by rw [arrV_size]; exact in_i hi h0 h1) rfl rfl hd (fin_ast hB hL hwl (fun u hu => hws u (by simp [hu])) (by decide) (by decide) hf hs hi h0 h1 (hws (vI y) (by simp)) hG kk)
theorem T_bast {d : Nat} (hd : decode (mC k) pc = .ok (.bastore, 1)) (hdc : d / 2 = 41) (hx : x ≠ 0) (h0 : 0 ≤ i) (h1 : i < (g.1 x).2) (hG : Gok g) (kk : T_at g k (pc + 1) ls st0 n (st h x i (i2b y)) Q) : T_at g k pc ls (vI y :: vI i :: vR d x :: st0) n h Q := by
  intro p l e R s m args below meth cc D dA A γ0 n0 γ H locs cells slots la hB hL hwl hws
  have hi : i32 i := hws (vI i) (by simp)
  have hf := wt_fit (hws (vR d x) (by simp)) hdc hx
  obtain ⟨a1, -, a3⟩ := hB.arr (by decide) (by decide) hf
  rw [e_ast hx]
  refine W.bast hB.1.1 hB.1.2.1 a1 ((hB.2.2.1.1.2.1.2.1 41 (by decide) (by decide)).1 _ _) (fun q => by cases q) (by rw [arrV_size]; exact in_i hi h0 h1) rfl rfl hd (fun H' e2 e3 e4 => fin_ast hB hL hwl (fun u hu => hws u (by simp [hu])) (by decide) (by decide) hf (a3 (by decide) (by decide)) hi h0 h1 (yv := i2b y) ?_ hG kk H' ?_ e3 e4)
  · show -128 ≤ i2b y ∧ i2b y ≤ 127
    unfold i2b
    rw [Int8.toInt_toInt32]
    have h1 := (Int32.ofInt y).toInt8.le_toInt; have h2 := (Int32.ofInt y).toInt8.toInt_lt
    omega
  · rw [e2]
    show some ((arrV _ _ _).setSlot _ (.int ((Int32.ofInt y).toInt8.toInt32))) = some ((arrV _ _ _).setSlot _ (.int (Int32.ofInt (i2b y))))
    unfold i2b; rw [Int32.ofInt_toInt]
theorem T_zast {d : Nat} (hd : decode (mC k) pc = .ok (.bastore, 1)) (hdc : d / 2 = 44) (hx : x ≠ 0) (h0 : 0 ≤ i) (h1 : i < (g.1 x).2) (hy : 0 ≤ y ∧ y ≤ 1) (hG : Gok g) (kk : T_at g k (pc + 1) ls st0 n (st h x i y) Q) : T_at g k pc ls (vI y :: vI i :: vR d x :: st0) n h Q := by
  intro p l e R s m args below meth cc D dA A γ0 n0 γ H locs cells slots la hB hL hwl hws
  have hi : i32 i := hws (vI i) (by simp)
  have hf := wt_fit (hws (vR d x) (by simp)) hdc hx
  obtain ⟨a1, -, a3⟩ := hB.arr (by decide) (by decide) hf
  rw [e_ast hx]
  refine W.zast hB.1.1 hB.1.2.1 a1 ((hB.2.2.1.1.2.1.2.1 44 (by decide) (by decide)).1 _ _) (fun q => by cases q) (by rw [arrV_size]; exact in_i hi h0 h1) rfl rfl hd (fun H' e2 e3 e4 => fin_ast hB hL hwl (fun u hu => hws u (by simp [hu])) (by decide) (by decide) hf (a3 (by decide) (by decide)) hi h0 h1 (yv := y) hy hG kk H' ?_ e3 e4)
  rw [e2]
  have : y = 0 ∨ y = 1 := by omega
  rcases this with rfl | rfl <;> rfl
theorem T_sast {d : Nat} (hd : decode (mC k) pc = .ok (.sastore, 1)) (hdc : d / 2 = 42) (hx : x ≠ 0) (h0 : 0 ≤ i) (h1 : i < (g.1 x).2) (hG : Gok g) (kk : T_at g k (pc + 1) ls st0 n (st h x i (i2s y)) Q) : T_at g k pc ls (vI y :: vI i :: vR d x :: st0) n h Q := by
  intro p l e R s m args below meth cc D dA A γ0 n0 γ H locs cells slots la hB hL hwl hws
  have hi : i32 i := hws (vI i) (by simp)
  have hf := wt_fit (hws (vR d x) (by simp)) hdc hx
  obtain ⟨a1, -, a3⟩ := hB.arr (by decide) (by decide) hf
  rw [e_ast hx]
  refine W.sast hB.1.1 hB.1.2.1 a1 ((hB.2.2.1.1.2.1.2.1 42 (by decide) (by decide)).1 _ _) (fun q => by cases q) (by rw [arrV_size]; exact in_i hi h0 h1) rfl rfl hd (fun H' e2 e3 e4 => fin_ast hB hL hwl (fun u hu => hws u (by simp [hu])) (by decide) (by decide) hf (a3 (by decide) (by decide)) hi h0 h1 (yv := i2s y) ?_ hG kk H' ?_ e3 e4)
  · show -32768 ≤ i2s y ∧ i2s y ≤ 32767
    unfold i2s
    rw [Int16.toInt_toInt32]
    have h1 := (Int32.ofInt y).toInt16.le_toInt; have h2 := (Int32.ofInt y).toInt16.toInt_lt
    omega
  · rw [e2]
    show some ((arrV _ _ _).setSlot _ (.int ((Int32.ofInt y).toInt16.toInt32))) = some ((arrV _ _ _).setSlot _ (.int (Int32.ofInt (i2s y))))
    unfold i2s; rw [Int32.ofInt_toInt]
theorem T_last {d : Nat} (hd : decode (mC k) pc = .ok (.lastore, 1)) (hdc : d / 2 = 43) (hx : x ≠ 0) (h0 : 0 ≤ i) (h1 : i < (g.1 x).2) (hG : Gok g) (kk : T_at g k (pc + 1) ls st0 n (st h x i y) Q) : T_at g k pc ls (vL y :: vI i :: vR d x :: st0) n h Q := by
  intro p l e R s m args below meth cc D dA A γ0 n0 γ H locs cells slots la hB hL hwl hws
  have hi : i32 i := hws (vI i) (by simp)
  have hf := wt_fit (hws (vR d x) (by simp)) hdc hx
  obtain ⟨a1, -, a3⟩ := hB.arr (by decide) (by decide) hf
  rw [e_ast hx]
  exact W.last hB.1.1 hB.1.2.1 a1 ((hB.2.2.1.1.2.1.2.1 43 (by decide) (by decide)).1 _ _) (fun q => by cases q) (by rw [arrV_size]; exact in_i hi h0 h1) rfl rfl hd (fin_ast hB hL hwl (fun u hu => hws u (by simp [hu])) (by decide) (by decide) hf (a3 (by decide) (by decide)) hi h0 h1 (hws (vL y) (by simp)) hG kk)
/-- the class that an array of references is over -/
def akc : Nat → Nat | 45 => 1 | 46 => 3 | _ => 8
theorem T_aast {d d' ak : Nat} (hd : decode (mC k) pc = .ok (.aastore, 1)) (ha : 45 ≤ ak) (hb : ak < 48) (hdc : d / 2 = ak) (hdc' : d' / 2 = akc ak) (hx : x ≠ 0) (hy0 : y ≠ 0) (h0 : 0 ≤ i) (h1 : i < (g.1 x).2) (hG : Gok g) (kk : T_at g k (pc + 1) ls st0 n (st h x i y) Q) : T_at g k pc ls (vR d' y :: vI i :: vR d x :: st0) n h Q := by
  intro p l e R s m args below meth cc D dA A γ0 n0 γ H locs cells slots la hB hL hwl hws
  have hi : i32 i := hws (vI i) (by simp)
  have hf := wt_fit (hws (vR d x) (by simp)) hdc hx
  have hfy := wt_fit (hws (vR d' y) (by simp)) hdc' hy0
  obtain ⟨a1, -, a3⟩ := hB.arr (by omega) (by omega) hf
  have hc18 : akc ak < 18 := by
    have : ak = 45 ∨ ak = 46 ∨ ak = 47 := by omega
    rcases this with e | e | e <;> subst e <;> decide
  obtain ⟨-, -, -, cellV, g1, g2, g3, -⟩ := hB.mx.obj hc18 hfy
  have hKs : Kx D dA s := hB.2.2.1.1.2.1
  have hcls := (hKs.1.1 (akc ak) _ (vwCl_at hc18)).2
  have haty : aty ak = .object (clR (akc ak)) := by
    have : ak = 45 ∨ ak = 46 ∨ ak = 47 := by omega
    rcases this with e | e | e <;> subst e <;> rfl
  have hRA := (hKs.2.1 ak (by omega) (by omega)).2
  rw [haty] at hRA
  obtain ⟨kA, comp, k1, k2, k3, -⟩ := hRA
  have hcomp : comp = D.1 (akc ak) := Option.some.inj (k3.symm.trans hcls.1)
  subst hcomp
  obtain ⟨kC, hkC, hkk⟩ := hcls.2
  have e1 : (vR d' y :: vI i :: vR d x :: st0).map (cV γ) = .ref (γ y) :: .int (Int32.ofInt i) :: .ref (γ x) :: st0.map (cV γ) := by
    rw [e_ast hx]; show cR γ y :: _ = _; unfold cR; rw [if_neg hy0]
  rw [e1]
  have hsk : sk ak 0 = 6 + akc ak := by
    have : ak = 45 ∨ ak = 46 ∨ ak = 47 := by omega
    rcases this with e | e | e <;> subst e <;> rfl
  refine W.aast hB.1.1 hB.1.2.1 a1 (fun q h => by cases h) (fun h => by cases h) k1 k2 rfl hkC ⟨fun q => (in_i hi h0 h1) (Or.inl q), by rw [arrV_size, clamp_i hi h0]; omega⟩ g1 (fun q h => by rw [g3] at h; cases h) (by rw [g2]; exact hkC) (by rw [g2]; exact va_assign hcls) rfl rfl hd (fun H' e2 e3 e4 => fin_ast hB hL hwl (fun u hu => hws u (by simp [hu])) (by omega) (by omega) hf (a3 (by omega) (by omega)) hi h0 h1 (yv := y) ?_ hG kk H' ?_ e3 e4)
  · rw [hsk, Nat.add_comm]; exact Or.inr hfy
  · rw [e2, hsk]
    unfold cS; rw [if_neg (by omega), if_neg (by omega)]
    unfold cR; rw [if_neg hy0]
end
