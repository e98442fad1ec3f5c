set_option maxRecDepth 100000
/-- System.arraycopy -/
def cpy (h : Mem) (x sp y dp c : Int) : Mem := fun a j => if a = y ∧ dp ≤ j ∧ j < dp + c then rd h x (sp + (j - dp)) else h a j
section
variable {g : G} {k pc : Nat} {ls : Lcs} {st0 : List V} {n : Int} {h : Mem} {Q : Out → Int → Mem → Prop} {x y z o i sp dp c : Int} {v w u : V}
theorem fits_cS {S : Shp} {n : Int} {γ : Int → Nat} {ak : Nat} (hk : ak = 40 ∨ ak = 41 ∨ ak = 43) {x : Int} (h : wtv S n (sk ak 0) x) : fits (aty ak) (cS γ (sk ak 0) x) = true := by
  rcases hk with e | e | e <;> subst e
  · rfl
  · have h : -128 ≤ x ∧ x ≤ 127 := h
    have e : (Int32.ofInt x).toInt8.toInt32 = Int32.ofInt x := by
      rw [Int32.toInt8_ofInt]; exact Int8.toInt32_ofInt h.1 h.2
    show fits .byte (.int (Int32.ofInt x)) = true
    rw [← e]; exact pk_fb _
  · rfl
theorem T_acp {idx d d' ak : Nat} (hd : decode (mC k) pc = .ok (.invokestatic idx, 3)) (hG : Gok g) (hlk : (Cond.methodLink (mY k).cls idx arraycopyName) ∈ lw_mv) (hnat : (Cond.native arraycopyName) ∈ lw_mv) (hsta : (Cond.static arraycopyName) ∈ lw_mv) (hini : (Cond.initialized "java/lang/System") ∈ lw_mv)
    (hak : ak = 40 ∨ ak = 41 ∨ ak = 43 ∨ ak = 45) (hdc : d / 2 = ak) (hdc' : d' / 2 = ak) (hx : x ≠ 0) (hy : y ≠ 0) (hsy : SB ≤ y) (h1 : 0 ≤ sp) (h2 : 0 ≤ dp) (h3 : 0 ≤ c) (h4 : sp + c ≤ (g.1 x).2) (h5 : dp + c ≤ (g.1 y).2)
    (hfr : 1 ≤ mFR k) (hlo : (st0.map (fun v => match v with | .inr (.inl _) => 2 | _ => 1)).sum + (nativeFrameWords "java/lang/System" "arraycopy" 5 + 11) ≤ mLO k)
    (kk : T_at g k (pc + 3) ls st0 n (cpy h x sp y dp c) Q) : T_at g k pc ls (vI c :: vI dp :: vR d' y :: vI sp :: vR d x :: st0) n h Q := by
  intro p l e R s m args below meth cc D dA A γ0 n0 γ H locs cells slots la hB hL hwl hws T hT X
  have hTs : Tx s := hB.2.2.1.1.1
  have hKs : Kx D dA s := hB.2.2.1.1.2.1
  have hM := hB.mx
  have hic : i32 c := hws (vI c) (by simp)
  have hid : i32 dp := hws (vI dp) (by simp)
  have his : i32 sp := hws (vI sp) (by simp)
  have hfx := wt_fit (hws (vR d x) (by simp)) hdc hx
  have hfy := wt_fit (hws (vR d' y) (by simp)) hdc' hy
  have ha : 40 ≤ ak := by omega
  have hb : ak < 49 := by omega
  obtain ⟨ax, awx, -⟩ := hB.arr ha hb hfx
  obtain ⟨ay, awy, -⟩ := hB.arr ha hb hfy
  have ec := clamp_i hic h3
  have ed := clamp_i hid h2
  have es := clamp_i his h1
  obtain ⟨-, k0, hk0, cm0, hkk0⟩ := (hKs.2.1 ak ha hb).1 (g.1 x).2 (fun j => cS γ (sk ak 0) (rd h x j))
  have hneg : ∀ z : Int, i32 z → 0 ≤ z → ¬ Int32.ofInt z < 0 := fun z hz h0 q => by have := (i32_lt hz i32_0).mp q; omega
  have estk : (vI c :: vI dp :: vR d' y :: vI sp :: vR d x :: st0).map (cV γ) = .int (Int32.ofInt c) :: .int (Int32.ofInt dp) :: .ref (γ y) :: .int (Int32.ofInt sp) :: .ref (γ x) :: st0.map (cV γ) := by
    show Value.int (Int32.ofInt c) :: .int (Int32.ofInt dp) :: cR γ y :: .int (Int32.ofInt sp) :: cR γ x :: _ = _
    unfold cR; rw [if_neg hx, if_neg hy]
  have hread : ∀ i : Nat, i < c.toNat → (arrV (dA ak) (g.1 x).2 (fun j => cS γ (sk ak 0) (rd h x j))).slots.getD (sp.toNat + i) .null = cS γ (sk ak 0) (rd h x ((sp.toNat + i : Nat) : Int)) := fun i hi => by
    rw [Array.getD_eq_getD_getElem?, arrV_read _ _ (by omega)]; rfl
  obtain ⟨vm', X', step⟩ := X.arraycopy hB.1.1 hB.1.2.2.2.2.2.1 (hTs.use hlk args) (hTs.use hnat args) (hTs.use hsta args) (hTs.use hini args) (src := γ x) (dst := γ y) (cs := arrV (dA ak) (g.1 x).2 (fun j => cS γ (sk ak 0) (rd h x j))) (cd := arrV (dA ak) (g.1 y).2 (fun j => cS γ (sk ak 0) (rd h y j))) (srcPos := Int32.ofInt sp) (destPos := Int32.ofInt dp) (n := Int32.ofInt c) (by rw [hT]; exact ax) (by rw [hT]; exact ay)
    (fun _ h => by cases h) (fun _ h => by cases h) (fun h => by cases h) (fun h => by cases h) hk0 hk0 hkk0 hkk0 (by simp) (hneg _ his h1) (hneg _ hid h2) (hneg _ hic h3)
    (by rw [i32_to his, i32_to hic, arrV_size]; omega) (by rw [i32_to hid, i32_to hic, arrV_size]; omega)
    (fun vm₁ hal i hi => by
      rw [ec] at hi
      rw [es, hread i hi]
      have hw := awx (sp.toNat + i) (by omega)
      by_cases hk5 : ak = 45
      · subst hk5
        have hw : rd h x ((sp.toNat + i : Nat) : Int) = 0 ∨ rfit g.1 n 1 (rd h x ((sp.toNat + i : Nat) : Int)) := hw
        show fits (.object "FontHouse$Bytes") (cR γ _) = true ∧ (T.setVm vm₁).takes _ (cR γ _)
        unfold cR
        by_cases q : rd h x ((sp.toNat + i : Nat) : Int) = 0
        · rw [if_pos q]; exact ⟨rfl, trivial⟩
        · rw [if_neg q]
          have hf := hw.resolve_left q
          obtain ⟨-, -, -, cellV, g1, g2, g3, -⟩ := hM.obj (by decide) hf
          have hcls := (hKs.1.1 1 _ (vwCl_at (by decide))).2
          obtain ⟨kA, comp, r1, r2, r3, -⟩ := (hKs.2.1 45 (by decide) (by decide)).2
          cases hk0.symm.trans r1
          cases hkk0.symm.trans r2
          have hcomp : cm0 = D.1 1 := Option.some.inj (r3.symm.trans hcls.1)
          subst hcomp
          obtain ⟨kC, hkC, hkk⟩ := hcls.2
          obtain ⟨kC', hkC', -⟩ := hal.2.2 _ _ hkC
          refine ⟨rfl, cellV, (show T.heap[γ _]? = some cellV by rw [hT]; exact g1), (fun q h => by rw [g3] at h; cases h), ⟨kC', by rw [g2]; exact hkC'⟩, ⟨kC', hkC'⟩, ?_⟩
          show vm₁.assignable _ _ = true
          rw [hal.assignable, g2]
          exact va_assign hcls
      · have hp : ak = 40 ∨ ak = 41 ∨ ak = 43 := by omega
        refine ⟨fits_cS hp hw, ?_⟩
        rcases hp with e | e | e <;> subst e <;> exact trivial)
    (g := F0 m pc la ((vI c :: vI dp :: vR d' y :: vI sp :: vR d x :: st0).map (cV γ))) rfl (by rw [hB.1.2.2.1]; exact hL.1) (rest := st0.map (cV γ)) estk (by rw [hB.1.2.1]; exact hd) (by have := hB.2.1.1; omega) (by
      have e : (st0.map (cV γ)).map (fun v => v.category) = st0.map (fun v => match v with | .inr (.inl _) => 2 | _ => 1) := by
        rw [List.map_map]
        exact List.map_congr_left fun v _ => cV_cat1 γ v
      have := hB.2.1.2.1
      show 2 * 0 + _ + _ ≤ _
      rw [e]; omega)
  have e1 : copied (arrV (dA ak) (g.1 x).2 (fun j => cS γ (sk ak 0) (rd h x j))) (arrV (dA ak) (g.1 y).2 (fun j => cS γ (sk ak 0) (rd h y j))) (Int32.ofInt sp) (Int32.ofInt dp) (Int32.ofInt c) = arrV (dA ak) (g.1 y).2 (fun j => cS γ (sk ak 0) (cpy h x sp y dp c y j)) := by
    have := va_copied (cS γ (sk ak 0)) (dA ak) (dA ak) (n0 := (g.1 x).2) (n1 := (g.1 y).2) (sp := (Int32.ofInt sp).toNatClampNeg) (dp := (Int32.ofInt dp).toNatClampNeg) (n := (Int32.ofInt c).toNatClampNeg) (fun j : Nat => rd h x j) (fun j : Nat => rd h y j) (by rw [es, ec]; omega)
    refine Eq.trans this ?_
    congr 1
    funext j
    congr 1
    unfold va_cpy cpy
    rw [ed, es, ec]
    by_cases q : dp ≤ (j : Int) ∧ (j : Int) < dp + c
    · rw [if_pos (by omega), if_pos ⟨rfl, q⟩]
      show rd h x ((sp.toNat + (j - dp.toNat) : Nat) : Int) = rd h x (sp + ((j : Int) - dp))
      have e9 : ((sp.toNat + (j - dp.toNat) : Nat) : Int) = sp + ((j : Int) - dp) := by omega
      rw [e9]
    · rw [if_neg (by omega), if_neg (fun z => q z.2)]
      exact rd_dyn hsy
  rw [e1] at X' step
  have hl : γ y < H.size := (Array.getElem?_eq_some_iff.mp ay).1
  have f2 : y < n := hfy.2.1
  have f3 : (g.1 y).1 = ak := by have := hfy.2.2; rw [if_neg (by omega)] at this; exact this
  have hheap : ((T.setVm vm').setCell (γ y) (arrV (dA ak) (g.1 y).2 (fun j => cS γ (sk ak 0) (cpy h x sp y dp c y j)))).heap = H.setIfInBounds (γ y) (arrV (dA ak) (g.1 y).2 (fun j => cS γ (sk ak 0) (cpy h x sp y dp c y j))) := by rw [← hT]; rfl
  have oq : ∀ q : Nat, q ≠ γ y → (H.setIfInBounds (γ y) (arrV (dA ak) (g.1 y).2 (fun j => cS γ (sk ak 0) (cpy h x sp y dp c y j))))[q]? = H[q]? := fun q hq => by simp [Array.getElem?_setIfInBounds, Ne.symm hq]
  have hM' : Mx g D dA γ A n (cpy h x sp y dp c) (H.setIfInBounds (γ y) (arrV (dA ak) (g.1 y).2 (fun j => cS γ (sk ak 0) (cpy h x sp y dp c y j)))) := by
    refine hM.upd hsy f2 ?_ (by simp) oq (fun a j hne => by unfold cpy; rw [if_neg (fun q => hne q.1)]) ?_ (fun j w hw => by have := hG.2 _ j w hw; omega)
    · unfold Cl
      rw [f3, if_neg (by omega)]
      simp [Array.getElem?_setIfInBounds, hl]
    · intro j hj hne
      rw [f3] at hne ⊢
      rw [sk_arr ha hb j]
      unfold cpy
      by_cases q : y = y ∧ dp ≤ (j : Int) ∧ (j : Int) < dp + c
      · rw [if_pos q]
        have := awx (sp + ((j : Int) - dp)).toNat (by omega)
        have e9 : (((sp + ((j : Int) - dp)).toNat : Nat) : Int) = sp + ((j : Int) - dp) := by omega
        rw [e9] at this
        exact this
      · rw [if_neg q]
        have := awy j hj
        rw [rd_dyn hsy] at this
        exact this
  obtain ⟨t, a1, b1⟩ := kk p l e R s m args below meth cc D dA A γ0 n0 γ _ _ cells slots la ⟨hB.1, hB.2.1, ⟨hB.2.2.1.1, ⟨by simp; exact hB.2.2.1.2.1.1, fun q g1 g2 => by
      rw [oq q (fun e => g2 (by rw [e]; exact (hM.2.2.2.1 y hsy f2).2.1))]
      exact hB.2.2.1.2.1.2.1 q g1 g2, fun q hq => by
      rcases List.mem_append.mp hq with h | h
      · exact hB.2.2.1.2.1.2.2 q h
      · obtain ⟨z, -, hz⟩ := List.mem_map.mp h
        rw [← hz]
        exact (hM.2.2.2.1 y hsy f2).2.1⟩, hB.2.2.1.2.2⟩, hB.2.2.2.1, hB.2.2.2.2.1, hB.2.2.2.2.2.1, hM'⟩ hL hwl (fun u hu => hws u (by simp [hu])) _ hheap X'
  exact ⟨t, step t a1, b1⟩
end
