set_option maxRecDepth 100000
/-- loose bodies of the house: numbers and bytes -/
def MB (D : Int → Prop) (h : Mem) (M : List (Int × List Int)) : Prop := (∀ y ∈ M, (0 ≤ y.1 ∧ y.1 < 112) ∧ ¬ D y.1 ∧ h (28 + 2 * y.1) 3 = 1 ∧ BL h (28 + 2 * y.1) y.2) ∧ (M.map (fun y => y.1)).Nodup
def boC (a _j : Int) : Prop := 28 ≤ a ∧ a ≤ 251
theorem BL_t {h h1 : Mem} {o : Int} {L : List Int} (B : BL h o L) (e1 : h1 o 1 = h o 1) (e2 : ∀ i, h1 (o + 1) i = h (o + 1) i) : BL h1 o L := ⟨by rw [e1]; exact B.1, fun i hi => by rw [e2]; exact B.2 i hi⟩
section
variable {n m : Int} {h w : Mem}
theorem mb_fresh {β0 β : Int → Int} {D : Int → Prop} {c1 c2 : Int} {h0 w0 : Mem} {M : List (Int × List Int)} (C : CHG β0 β D c1 c2 h0 w0 h w) (B : MB D h M) (cc : c1 < 72) : ∃ (k : Int) (h1 : Mem), (0 ≤ k ∧ k < 112) ∧ Ev gC 474 [vR 5 24] n h (.inl (some (vR 2 (28 + 2 * k)))) n h1 ∧ CHG β0 β D (c1 + 1) c2 h0 w0 h1 w ∧ MB D h1 ((k, []) :: M) ∧ Fz boC h h1 := by
  obtain ⟨k, k0, nk, kb, ev, C2⟩ := cg_fresh (n := n) C cc
  have nm : ∀ y ∈ M, y.1 ≠ k := fun y hy e => by
    have := (B.1 y hy).2.2.1
    rw [e] at this; omega
  refine ⟨k, _, k0, ev, C2, ⟨fun y hy => ?_, ?_⟩, fun a j g => ?_⟩
  · rcases List.mem_cons.mp hy with e | e
    · subst e
      refine ⟨k0, nk, ?_, ?_, fun i hi => ?_⟩
      · show (st (st (st h (28 + 2 * k) 3 1) (28 + 2 * k) 1 0) (28 + 2 * k) 2 0) (28 + 2 * k) 3 = 1
        rw [st_nj (by omega), st_nj (by omega), st_eq]
      · show (st (st (st h (28 + 2 * k) 3 1) (28 + 2 * k) 1 0) (28 + 2 * k) 2 0) (28 + 2 * k) 1 = 0
        rw [st_nj (by omega), st_eq]
      · exact absurd hi (Nat.not_lt_zero _)
    · obtain ⟨y1, y2, y3, y4⟩ := B.1 y e
      have := nm y e
      exact ⟨y1, y2, by rw [st_na (by omega), st_na (by omega), st_na (by omega)]; exact y3, BL_t y4 (by rw [st_na (by omega), st_na (by omega), st_na (by omega)]) (fun i => by rw [st_na (by omega), st_na (by omega), st_na (by omega)])⟩
  · show (k :: M.map (fun y => y.1)).Nodup
    refine List.nodup_cons.mpr ⟨fun hk => ?_, B.2⟩
    obtain ⟨y, y1, y2⟩ := List.mem_map.mp hk
    exact nm y y1 y2
  · have g' : ¬ (28 ≤ a ∧ a ≤ 251) := g
    rw [st_na (by omega), st_na (by omega), st_na (by omega)]
theorem mb_by {β0 β : Int → Int} {D : Int → Prop} {c1 c2 k : Int} {h0 w0 h1 : Mem} {L L' : List Int} {M : List (Int × List Int)} (C : CHG β0 β D c1 c2 h0 w0 h w) (B : MB D h ((k, L) :: M)) (F : Fz (bdC (28 + 2 * k)) h h1) (b : BL h1 (28 + 2 * k) L') : CHG β0 β D c1 c2 h0 w0 h1 w ∧ MB D h1 ((k, L') :: M) ∧ Fz boC h h1 := by
  obtain ⟨k0, nk, kb, _⟩ := B.1 (k, L) (List.mem_cons_self ..)
  have k0 : 0 ≤ k ∧ k < 112 := k0
  have nk : ¬ D k := nk
  have kb : h (28 + 2 * k) 3 = 1 := kb
  have e3 : h1 (28 + 2 * k) 3 = 1 := (F _ _ (by unfold bdC; omega)).trans kb
  have nd : k ∉ M.map (fun y => y.1) := (List.nodup_cons.mp B.2).1
  refine ⟨cg_h C k0 nk (Fz_mo F (fun a j g => by unfold bdC at g; omega)) (Or.inr e3) (by rw [kb, e3]; have := C.2.2.2.2.1.2.2.2.1; omega), ⟨fun y hy => ?_, B.2⟩, Fz_mo F (fun a j g => by unfold bdC at g; unfold boC; omega)⟩
  rcases List.mem_cons.mp hy with e | e
  · subst e; exact ⟨k0, nk, e3, b⟩
  · obtain ⟨y1, y2, y3, y4⟩ := B.1 y (List.mem_cons_of_mem _ e)
    have : y.1 ≠ k := fun q => nd (List.mem_map.mpr ⟨y, e, q⟩)
    exact ⟨y1, y2, by rw [F _ _ (by unfold bdC; omega)]; exact y3, BL_t y4 (F _ _ (by unfold bdC; omega)) (fun i => F _ _ (by unfold bdC; omega))⟩
end
