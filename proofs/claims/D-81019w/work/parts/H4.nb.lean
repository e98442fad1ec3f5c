set_option maxRecDepth 100000
/-- loose bodies of the model, over the memory u -/
def NB (β : Int → Int) (D : Int → Prop) (c : Int) (u w : Mem) (M : List (Int × List Int)) : Prop := (∀ y ∈ M, (0 ≤ y.1 ∧ y.1 < 120) ∧ (∀ k, D k → β k ≠ y.1) ∧ w 54 y.1 = 1 ∧ w 53 y.1 = y.2.length ∧ BM w y.1 y.2) ∧ (M.map (fun y => y.1)).Nodup ∧ (∀ x : Int, 0 ≤ x → x < 120 → w 54 x = 0 ∨ w 54 x = 1) ∧ smi (w 54) 120 ≤ 40 + c ∧ (∀ k, D k → w 54 (β k) = 1) ∧ (∀ j : Int, j ∉ M.map (fun y => y.1) → w 53 j = u 53 j ∧ w 54 j = u 54 j ∧ ∀ i : Int, 0 ≤ i → i < 12000 → w 52 (12000 * j + i) = u 52 (12000 * j + i))
theorem BM_t {w w1 : Mem} {b : Int} {L : List Int} (B : BM w b L) (e : ∀ i : Nat, i < L.length → w1 52 (12000 * b + i) = w 52 (12000 * b + i)) : BM w1 b L := fun i y hy => by rw [e i (List.getElem?_eq_some_iff.mp hy).1]; exact B i y hy
section
variable {n m : Int} {u w : Mem}
theorem nb_fresh {β : Int → Int} {D : Int → Prop} {c : Int} {M : List (Int × List Int)} (x : Nat) (x0 : x ≤ 12000) (N : NB β D c u w M) (ml : ∀ y ∈ M, y.2.length ≤ 12000) (cc : c < 80) : ∃ (b : Int) (w1 : Mem), (0 ≤ b ∧ b < 120) ∧ Ev gM 316 [vR 33 17, vI x] m w (.inl (some (vI b))) m w1 ∧ NB β D (c + 1) u w1 ((b, List.replicate x 0) :: M) ∧ ∀ a j, (a < 52 ∨ 54 < a) → w1 a j = w a j := by
  obtain ⟨n1, n2, n3, n4, n5, n6⟩ := N
  obtain ⟨b, w1, b0, b1, ev, e1, e2, e3, F⟩ := m_fresh (m := m) (w := w) (x := x) (by omega) n3 (by omega)
  have nm : ∀ y ∈ M, y.1 ≠ b := fun y hy e => by
    have := (n1 y hy).2.2.1
    rw [e] at this; omega
  have nk : ∀ k, D k → β k ≠ b := fun k q e => by
    have := n5 k q
    rw [e] at this; omega
  refine ⟨b, w1, b0, ev, ⟨fun y hy => ?_, ?_, fun z z0 z1 => ?_, ?_, fun k q => ?_, fun j hj => ?_⟩, fun a j g => F _ _ (by omega)⟩
  · rcases List.mem_cons.mp hy with e | e
    · subst e
      refine ⟨b0, nk, e1, by rw [List.length_replicate]; exact e2, fun i z hz => ?_⟩
      have hz : (List.replicate x (0 : Int))[i]? = some z := hz
      have hl : i < x := by have := (List.getElem?_eq_some_iff.mp hz).1; rw [List.length_replicate] at this; exact this
      rw [List.getElem?_replicate, if_pos hl] at hz
      rw [← Option.some.inj hz]
      exact e3 i (by omega) (by omega)
    · obtain ⟨y1, y2, y3, y4, y5⟩ := n1 y e
      have q := nm y e
      have l := ml y e
      exact ⟨y1, y2, by rw [F _ _ (by omega)]; exact y3, by rw [F _ _ (by omega)]; exact y4, BM_t y5 (fun i hi => F _ _ (by omega))⟩
  · refine List.nodup_cons.mpr ⟨fun hk => ?_, n2⟩
    obtain ⟨y, y1, y2⟩ := List.mem_map.mp hk
    exact nm y y1 y2
  · by_cases e : z = b
    · rw [e]; exact Or.inr e1
    · rw [F _ _ (by omega)]; exact n3 z z0 z1
  · rw [smi_c (g := ufn (w 54) b 1) (fun k' a _ => by
      unfold ufn
      by_cases e : k' = b
      · rw [if_pos e, e]; exact e1
      · rw [if_neg e]; exact F _ _ (by omega)), smi_u b0.1 b0.2, b1]
    omega
  · have := nk k q
    rw [F _ _ (by omega)]; exact n5 k q
  · have hj : j ∉ b :: M.map (fun y => y.1) := hj
    have jb : j ≠ b := fun e => hj (by rw [e]; exact List.mem_cons_self ..)
    obtain ⟨f1, f2, f3⟩ := n6 j (fun q => hj (List.mem_cons_of_mem _ q))
    exact ⟨by rw [F _ _ (by omega)]; exact f1, by rw [F _ _ (by omega)]; exact f2, fun i i0 i1 => by rw [F _ _ (by omega)]; exact f3 i i0 i1⟩
theorem nb_by {β : Int → Int} {D : Int → Prop} {c b s : Int} {L L' : List Int} {M : List (Int × List Int)} {w1 : Mem} (N : NB β D c u w ((b, L) :: M)) (ml : ∀ y ∈ M, y.2.length ≤ 12000) (s0 : s ≤ 12000) (F : Fz (bmM b s) w w1) (B : BM w1 b L') (le : L'.length = L.length) : NB β D c u w1 ((b, L') :: M) := by
  obtain ⟨n1, n2, n3, n4, n5, n6⟩ := N
  have nd : b ∉ M.map (fun y => y.1) := (List.nodup_cons.mp n2).1
  have f4 : ∀ j, w1 54 j = w 54 j ∧ w1 53 j = w 53 j := fun j => ⟨F _ _ (by unfold bmM; omega), F _ _ (by unfold bmM; omega)⟩
  refine ⟨fun y hy => ?_, n2, fun z z0 z1 => by rw [(f4 z).1]; exact n3 z z0 z1, by rw [smi_c (g := w 54) (fun k _ _ => (f4 k).1)]; exact n4, fun k q => by rw [(f4 _).1]; exact n5 k q, fun j hj => ?_⟩
  · rcases List.mem_cons.mp hy with e | e
    · subst e
      obtain ⟨y1, y2, y3, y4, _⟩ := n1 (b, L) (List.mem_cons_self ..)
      exact ⟨y1, y2, by rw [(f4 _).1]; exact y3, by rw [(f4 _).2]; show w 53 b = (L'.length : Int); rw [le]; exact y4, B⟩
    · obtain ⟨y1, y2, y3, y4, y5⟩ := n1 y (List.mem_cons_of_mem _ e)
      have q : y.1 ≠ b := fun z => nd (List.mem_map.mpr ⟨y, e, z⟩)
      have l := ml y e
      exact ⟨y1, y2, by rw [(f4 _).1]; exact y3, by rw [(f4 _).2]; exact y4, BM_t y5 (fun i hi => F _ _ (by unfold bmM; omega))⟩
  · have hj' : j ∉ b :: M.map (fun y => y.1) := hj
    have jb : j ≠ b := fun e => hj' (by rw [e]; exact List.mem_cons_self ..)
    obtain ⟨f1, f2, f3⟩ := n6 j hj
    exact ⟨by rw [(f4 _).2]; exact f1, by rw [(f4 _).1]; exact f2, fun i i0 i1 => by rw [F _ _ (by unfold bmM; omega)]; exact f3 i i0 i1⟩
end
