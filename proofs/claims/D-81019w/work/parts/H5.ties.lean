set_option maxRecDepth 100000
section
variable {h w : Mem}
/-- body k of the house and body b of the model can be tied -/
def TCO (β : Int → Int) (D : Int → Prop) (h w : Mem) (y : Int × Int) : Prop := (0 ≤ y.1 ∧ y.1 < 112) ∧ ¬ D y.1 ∧ h (28 + 2 * y.1) 3 = 1 ∧ (0 ≤ y.2 ∧ y.2 < 120) ∧ (∀ k, D k → β k ≠ y.2) ∧ w 54 y.2 = 1 ∧ (0 ≤ h (28 + 2 * y.1) 1 ∧ h (28 + 2 * y.1) 1 ≤ 12000) ∧ w 53 y.2 = h (28 + 2 * y.1) 1 ∧ ∀ i, 0 ≤ i → i < h (28 + 2 * y.1) 1 → h (29 + 2 * y.1) i = w 52 (12000 * y.2 + i) ∧ -128 ≤ h (29 + 2 * y.1) i ∧ h (29 + 2 * y.1) i ≤ 127
theorem cg_ties {β0 : Int → Int} {c1 c2 : Int} {h0 w0 : Mem} : ∀ (L : List (Int × Int)) (β : Int → Int) (D : Int → Prop), CHG β0 β D c1 c2 h0 w0 h w → (∀ y ∈ L, TCO β D h w y) → (L.map (fun y => y.1)).Nodup → (L.map (fun y => y.2)).Nodup → ∃ (β' : Int → Int) (D' : Int → Prop), CHG β0 β' D' c1 c2 h0 w0 h w ∧ (∀ k, D k → D' k ∧ β' k = β k) ∧ ∀ y ∈ L, D' y.1 ∧ β' y.1 = y.2 := by
  intro L
  induction L with
  | nil => exact fun β D C _ _ _ => ⟨β, D, C, fun k q => ⟨q, rfl⟩, fun y hy => by cases hy⟩
  | cons y L ih =>
    intro β D C tc n1 n2
    obtain ⟨t1, t2, t3, t4, t5, t6, t7, t8, t9⟩ := tc y (List.mem_cons_self ..)
    have C1 := cg_tie C t1 t2 t3 t4 t5 t6 t7 t8 t9
    have m1 := List.nodup_cons.mp n1
    have m2 := List.nodup_cons.mp n2
    obtain ⟨β', D', C2, e1, e2⟩ := ih (ufn β y.1 y.2) (fun x => D x ∨ x = y.1) C1 (fun z hz => by
      obtain ⟨s1, s2, s3, s4, s5, s6⟩ := tc z (List.mem_cons_of_mem _ hz)
      have a1 : z.1 ≠ y.1 := fun e => m1.1 (List.mem_map.mpr ⟨z, hz, e⟩)
      have a2 : z.2 ≠ y.2 := fun e => m2.1 (List.mem_map.mpr ⟨z, hz, e⟩)
      refine ⟨s1, fun q => ?_, s3, s4, fun k q => ?_, s6⟩
      · rcases q with q | q
        · exact s2 q
        · exact a1 q
      · rcases q with q | q
        · have : k ≠ y.1 := fun e => t2 (e ▸ q)
          rw [ufn_n this]; exact s5 k q
        · rw [q, ufn_e]; exact fun e => a2 e.symm) m1.2 m2.2
    refine ⟨β', D', C2, fun k q => ?_, fun z hz => ?_⟩
    · have : k ≠ y.1 := fun e => t2 (e ▸ q)
      have := e1 k (Or.inl q)
      refine ⟨this.1, ?_⟩
      rw [this.2]; exact ufn_n (by assumption)
    · rcases List.mem_cons.mp hz with e | e
      · subst e
        have := e1 z.1 (Or.inr rfl)
        exact ⟨this.1, by rw [this.2]; exact ufn_e⟩
      · exact e2 z e
end
