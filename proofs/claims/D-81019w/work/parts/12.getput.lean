set_option maxRecDepth 100000
section
variable {g : G} {k pc : Nat} {ls : Lcs} {st0 : List V} {n : Int} {h : Mem} {Q : Out → Int → Mem → Prop} {x y z o : Int} {v w u : V}
theorem Bx.mx {g : G} {k : Nat} {p : Program} {R : Room} {s : State} {m : MethodId} {meth : Method} {c : Code} {D : va_G} {dA : Nat → ClassId} {A : Nat → Prop} {γ0 : Int → Nat} {n0 : Int} {γ : Int → Nat} {n : Int} {h : Mem} {H : Heap} {locs : List Loc} {cells slots : Nat} (hB : Bx g k p R s m meth c D dA A γ0 n0 γ n h H locs cells slots) : Mx g D dA γ A n h H := hB.2.2.2.2.2.2
theorem wt_fit {d c : Nat} (hw : wtV g.1 n (vR d o)) (hdc : d / 2 = c) (ho : o ≠ 0) : rfit g.1 n c o := by
  rcases hw with q | q
  · exact absurd q.1 ho
  · rw [← hdc]; exact q
theorem obj_N (hG : Gok g) {c : Nat} (hc : c < 18) {D : va_G} {dA : Nat → ClassId} {γ : Int → Nat} {A : Nat → Prop} {H : Heap} (hM : Mx g D dA γ A n h H) (hf : rfit g.1 n c o) : (g.1 o).2 = clN c := by
  obtain ⟨h1, h2, h3, -⟩ := hM.obj hc hf
  have := hG.1 o h1 (by have := hM.2.1; omega)
  rw [h3] at this
  rcases this with ⟨-, q⟩ | q
  · exact q
  · omega
/-- getfield -/
theorem T_get {idx c j d : Nat} (hG : Gok g) (hd : decode (mC k) pc = .ok (.getfield idx, 3)) (hlk : LkF (mY k).cls idx c j) (hc : c < 18) (hj : j < clN c) (ht : sk c j ≠ 99) (hdc : d / 2 = c) (ho : o ≠ 0)
    (kk : T_at g k (pc + 3) ls (gv (sk c j) (h o j) :: st0) n h Q) : T_at g k pc ls (vR d o :: st0) n h Q := by
  intro p l e R s m args below meth cc D dA A γ0 n0 γ H locs cells slots la hB hL hwl hws
  have hM := hB.mx
  have hTs : Tx s := hB.2.2.1.1.1
  have hKs : Kx D dA s := hB.2.2.1.1.2.1
  have hfit := wt_fit (hws _ List.mem_cons_self) hdc ho
  have hN := obj_N hG hc hM hfit
  obtain ⟨h1, h2, h3, cell, q1, q2, q3, q5, q4⟩ := hM.obj hc hfit
  obtain ⟨hS, hfc, kC, hkC, hkind⟩ := hKs.1.1 c _ (vwCl_at hc)
  obtain ⟨cf, kf, fi, f, hi, hsl⟩ := hS j hj
  have hst := (u_facts hfc hkC (u_lays (hTs.all args) (cl_in c hc) hj) hi).1
  have hv : cell.slots[f.slot]? = some (cV γ (gv (sk c j) (h o j))) := by rw [hsl, cV_gv]; exact q4 j (by omega) ht
  have hwt : wtV g.1 n (gv (sk c j) (h o j)) := wtv_gv (by have := hM.2.2.2.2.2.1 o h1 h2 j (by omega); rw [h3] at this; exact this ht)
  have K := kk p l e R s m args below meth cc D dA A γ0 n0 γ H locs cells slots la hB hL hwl (fun u hu => by
    rcases List.mem_cons.mp hu with e | e
    · rw [e]; exact hwt
    · exact hws u (List.mem_cons_of_mem _ e))
  have e1 : (vR d o :: st0).map (cV γ) = .ref (γ o) :: st0.map (cV γ) := by rw [List.map_cons]; show cR γ o :: _ = _; unfold cR; rw [if_neg ho]
  rw [e1]
  rcases hlk with hl | ⟨host, hl⟩
  · exact W.getf hB.1.1 hB.1.2.1 hB.1.2.2.2.2.2.1 (hTs.use hl args) hi hst q1 (by rw [q3]; exact fun h => by cases h) hv rfl rfl hd K
  · exact va_Wgetf hB.1.1 hB.1.2.1 hB.1.2.2.2.2.2.1 (hTs.use hl args) hi hst q1 (by rw [q3]; exact fun h => by cases h) hv rfl rfl hd K
/-- a final slot's value -/
theorem T_fin_eq {j : Nat} {fv : Int} {c d : Nat} (hc : c < 18) (hdc : d / 2 = c) (ho : o ≠ 0) (hf : g.2.2 c j = some fv) (kk : h o j = o + fv → T_at g k pc ls (vR d o :: st0) n h Q) : T_at g k pc ls (vR d o :: st0) n h Q := by
  intro p l e R s m args below meth cc D dA A γ0 n0 γ H locs cells slots la hB hL hwl hws
  have hM := hB.mx
  have hfit := wt_fit (hws _ List.mem_cons_self) hdc ho
  obtain ⟨h1, h2, h3, -⟩ := hM.obj hc hfit
  exact kk (hM.2.2.2.2.2.2 o j fv h1 h2 (by rw [h3]; exact hf)) p l e R s m args below meth cc D dA A γ0 n0 γ H locs cells slots la hB hL hwl hws
theorem st_same (h : Mem) (a j v : Int) : st h a j v a j = v := by simp [st]
theorem st_other {h : Mem} {a j v a' j' : Int} (q : ¬ (a' = a ∧ j' = j)) : st h a j v a' j' = h a' j' := by simp [st, q]
/-- putfield -/
theorem T_put {idx c j d : Nat} {cnd : Prop} (hG : Gok g) (hd : decode (mC k) pc = .ok (.putfield idx, 3)) (hlk : LkF (mY k).cls idx c j) (hc : c < 18) (hj : j < clN c) (ht : sk c j ≠ 99) (hdc : d / 2 = c) (ho : o ≠ 0)
    (hfin : (clT c j).2.2.2 = false ∨ ((mY k).name = "<init>" ∧ (clT c j).1 = (mY k).cls ∧ (Cond.fieldLink (mY k).cls idx (clT c j).1 (clT c j).2.1 (clT c j).2.2.1) ∈ lw_mv)) (hpv : pv (sk c j) v = some (cnd, x)) (hcnd : cnd) (hfs : ∀ w : Int, g.2.2 c j = some w → x = o + w)
    (kk : T_at g k (pc + 3) ls st0 n (st h o j x) Q) : T_at g k pc ls (v :: vR d o :: st0) n h Q := by
  intro p l e R s m args below meth cc D dA A γ0 n0 γ H locs cells slots la hB hL hwl hws
  have hM := hB.mx
  have hTs : Tx s := hB.2.2.1.1.1
  have hKs : Kx D dA s := hB.2.2.1.1.2.1
  have hfit := wt_fit (hws (vR d o) (by simp)) hdc ho
  have hN := obj_N hG hc hM hfit
  obtain ⟨h1, h2, h3, cell, q1, q2, q3, q5, q4⟩ := hM.obj hc hfit
  obtain ⟨hS, hfc, kC, hkC, hkind⟩ := hKs.1.1 c _ (vwCl_at hc)
  obtain ⟨cf, kf, fi, f, hi, hsl⟩ := hS j hj
  have hts := hTs.all args
  have hst := (u_facts hfc hkC (u_lays hts (cl_in c hc) hj) hi).1
  have hty := cl_ty c hc j hj
  obtain ⟨p1, p2, p3⟩ := pv_ok hpv ht hcnd (hws v (by simp))
  obtain ⟨p4, p5⟩ := p3 γ (clTy c j) (by rw [← sk_ty c hc j hj])
  have hap := va_apart (own := "") hts (cl_in c hc) (clTy c) (cl_ty c hc) (cl_nm c hc) hKs.1 (vwCl_at hc)
  have hlt : f.slot < cell.slots.size := by rw [hsl]; exact k2_hasslot (q4 j (by omega) ht)
  have e1 : (v :: vR d o :: st0).map (cV γ) = cV γ v :: .ref (γ o) :: st0.map (cV γ) := by rw [List.map_cons, List.map_cons]; show _ :: cR γ o :: _ = _; unfold cR; rw [if_neg ho]
  rw [e1]
  have fin : ∀ H' : Heap, H'[γ o]? = some (cell.setSlot f.slot (cV γ v)) → H'.size = H.size → (∀ q, q ≠ γ o → H'[q]? = H[q]?) → W p l.1 e R s m args below meth cc H' (locs ++ [⟨γ o, f.slot⟩]) cells slots (Zq g D dA γ0 A n0 Q R below s) (F0 m (pc + 3) la (st0.map (cV γ))) := by
    intro H' e2 e3 e4
    have hM' : Mx g D dA γ A n (st h o j x) H' := by
      refine hM.upd h1 h2 ?_ e3 e4 (fun a i hne => st_other (fun q => hne q.1)) ?_ ?_
      · unfold Cl
        rw [h3, if_pos (by omega)]
        refine ⟨_, e2, q2, q3, ⟨q5.1, q5.2.1, fun i hi9 => by simpa [Cell.setSlot] using q5.2.2 i hi9⟩, fun i hi' hne => ?_⟩
        by_cases q : i = j
        · subst q
          rw [← hsl, Cell.slots_setSlot_self _ hlt, st_same, p2 γ]
        · rw [hsl, slot_ne _ _ (hap j i hj (by omega) (fun e => q e.symm)), st_other (fun z => q (by omega))]
          exact q4 i hi' hne
      · intro i hi' hne
        rw [h3] at hne ⊢
        by_cases q : i = j
        · subst q; rw [st_same]; exact p1
        · rw [st_other (fun z => q (by omega))]
          have := hM.2.2.2.2.2.1 o h1 h2 i hi'
          rw [h3] at this; exact this hne
      · intro i w hw
        by_cases q : i = j
        · subst q; rw [st_same]; rw [h3] at hw; exact hfs w hw
        · rw [st_other (fun z => q (by omega))]
          exact hM.2.2.2.2.2.2 o i w h1 h2 hw
    exact kk p l e R s m args below meth cc D dA A γ0 n0 γ H' (locs ++ [⟨γ o, f.slot⟩]) cells slots la ⟨hB.1, hB.2.1, ⟨hB.2.2.1.1, va_S.put hB.2.2.1.2.1 e3 e4 (hM.2.2.2.1 o h1 h2).2.1, hB.2.2.1.2.2⟩, hB.2.2.2.1, hB.2.2.2.2.1, hB.2.2.2.2.2.1, hM'⟩ hL hwl (fun u hu => hws u (by simp [hu]))
  have hlay := hts _ (cl_in c hc _ (u_in_lay hj))
  unfold u_lay at hlay
  rcases hfin with hnf | ⟨hin, hdecl, hl⟩
  · rw [if_neg (by rw [hnf]; decide)] at hlay
    have h6 := u_store hfc hkC hkind hlay hi hty p4 p5
    rcases hlk with hl | ⟨host, hl⟩
    · exact W.putK hB.1.1 hB.1.2.1 (f := f) ⟨hB.1.2.2.2.2.2.1, hTs.use hl args, ⟨_, _, _, hi⟩, hst⟩ (by rw [q2]; exact h6) q1 q3 hlt rfl rfl hd fin
    · exact va_WputK hB.1.1 hB.1.2.1 (f := f) hB.1.2.2.2.2.2.1 (hTs.use hl args) hi hst (by rw [q2]; exact h6) q1 q3 hlt rfl rfl hd fin
  · by_cases hfl : (clT c j).2.2.2 = true
    · rw [if_pos hfl] at hlay
      have hcf : m.cls = cf := by
        obtain ⟨_, _, c', _, _, _, -, -, hf', -, -, -, hown2, -⟩ := Cond.laysFinal_spec hlay
        have e1 : c' = cf := by have := hi.symm.trans hf'; simp at this; exact this.1.symm
        rw [hdecl] at hown2
        rw [← e1]; exact Option.some.inj (hB.1.2.2.2.2.2.1.symm.trans hown2)
      have h6 := u_fits hfc hkC hkind (Or.inr hlay) hi hty p4 p5
      exact W.putFinK hB.1.1 hB.1.2.1 hB.1.2.2.2.2.2.1 (hTs.use hl args) hi hst hcf (hB.1.2.2.2.2.2.2.1.trans hin) (by rw [q2]; exact h6) q1 q3 hlt rfl rfl hd fin
    · rw [if_neg hfl] at hlay
      have h6 := u_store hfc hkC hkind hlay hi hty p4 p5
      exact W.putK hB.1.1 hB.1.2.1 (f := f) ⟨hB.1.2.2.2.2.2.1, hTs.use hl args, ⟨_, _, _, hi⟩, hst⟩ (by rw [q2]; exact h6) q1 q3 hlt rfl rfl hd fin
end
