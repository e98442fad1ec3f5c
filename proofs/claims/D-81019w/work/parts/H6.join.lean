set_option maxRecDepth 100000
/-- the loose bodies of both sides, given pairwise, get tied; the model's fonts may have gone on -/
def gho (w1 q : Mem) : Mem := fun a j => if 52 ≤ a ∧ a ≤ 54 then q a j else w1 a j
theorem gho_b {w1 q : Mem} {a j : Int} (g : 52 ≤ a ∧ a ≤ 54) : gho w1 q a j = q a j := if_pos g
theorem gho_o {w1 q : Mem} {a j : Int} (g : ¬ (52 ≤ a ∧ a ≤ 54)) : gho w1 q a j = w1 a j := if_neg g
/-- one font gets new tables with bodies of their own -/
theorem TG_n {w w1 : Mem} {p : Int} {L : List (Int × Int)} (T : TG w) (V : GL w1 p L) (e : ∀ q : Int, 0 ≤ q → q < 4 → q ≠ p → w1 55 q = w 55 q ∧ w1 57 q = w 57 q) (e2 : ∀ j : Int, 0 ≤ j → j < 64 → ¬ (16 * p ≤ j ∧ j < 16 * p + 16) → w1 58 j = w 58 j ∧ w1 59 j = w 59 j) (nx : ∀ q i, (0 ≤ q ∧ q < 4) → w 55 q = 1 → (0 ≤ i ∧ i < w 57 q ∧ i < 16) → ∀ y ∈ L, w 59 (16 * q + i) ≠ y.2) (nd : (L.map (fun y => y.2)).Nodup) : TG w1 := by
  have mem : ∀ i : Int, 0 ≤ i → i < w1 57 p → ∃ (u : i.toNat < L.length), w1 58 (16 * p + i) = (L[i.toNat]).1 ∧ w1 59 (16 * p + i) = (L[i.toNat]).2 := by
    intro i i0 i1
    rw [V.1] at i1
    have u : i.toNat < L.length := by omega
    have z := V.2 i.toNat L[i.toNat] (by rw [List.getElem?_eq_getElem u])
    rw [show ((i.toNat : Nat) : Int) = i by omega] at z
    exact ⟨u, z.1, z.2⟩
  have inj : ∀ i j : Nat, ∀ (u : i < L.length) (v : j < L.length), i < j → (L[i]).2 ≠ (L[j]).2 := by
    intro i j u v ij
    have z := List.pairwise_iff_getElem.mp nd i j (by rw [List.length_map]; exact u) (by rw [List.length_map]; exact v) ij
    rw [List.getElem_map, List.getElem_map] at z
    exact z
  have old : ∀ q i, (0 ≤ q ∧ q < 4) → q ≠ p → w1 55 q = 1 → (0 ≤ i ∧ i < w1 57 q ∧ i < 16) → w 55 q = 1 ∧ (0 ≤ i ∧ i < w 57 q ∧ i < 16) ∧ w1 58 (16 * q + i) = w 58 (16 * q + i) ∧ w1 59 (16 * q + i) = w 59 (16 * q + i) := by
    intro q i q0 ne hq i0
    have z := e q q0.1 q0.2 ne
    rw [z.1] at hq
    rw [z.2] at i0
    have y := e2 (16 * q + i) (by omega) (by omega) (by omega)
    exact ⟨hq, i0, y⟩
  intro q r i j q0 r0 hq hr i0 j0 z
  by_cases a : q = p
  · rw [a] at i0 z ⊢
    obtain ⟨u, u1, u2⟩ := mem i i0.1 i0.2.1
    by_cases b : r = p
    · rw [b] at j0 z ⊢
      obtain ⟨v, v1, v2⟩ := mem j j0.1 j0.2.1
      by_cases c : i = j
      · rw [c]
      · rw [u2, v2] at z
        by_cases d : i < j
        · exact absurd z (inj _ _ u v (by omega))
        · exact absurd z.symm (inj _ _ v u (by omega))
    · obtain ⟨x1, x2, x3, x4⟩ := old r j r0 b hr j0
      rw [u2, x4] at z
      exact absurd z.symm (nx r j r0 x1 x2 _ (List.getElem_mem u))
  · obtain ⟨y1, y2, y3, y4⟩ := old q i q0 a hq i0
    by_cases b : r = p
    · rw [b] at j0 z ⊢
      obtain ⟨v, v1, v2⟩ := mem j j0.1 j0.2.1
      rw [y4, v2] at z
      exact absurd z (nx q i q0 y1 y2 _ (List.getElem_mem v))
    · obtain ⟨x1, x2, x3, x4⟩ := old r j r0 b hr j0
      rw [y3, x3]
      exact T q r i j q0 r0 y1 x1 y2 x2 (by rw [← y4, ← x4]; exact z)
theorem cg_gho {β0 β : Int → Int} {D : Int → Prop} {c1 c0 c2 : Int} {h0 w0 h w1 q : Mem} {M : List (Int × List Int)} (C : CHG β0 β D c1 c0 h0 w0 h w1) (N : NB β D c2 w1 q M) : CHG β0 β D c1 c2 h0 w0 h (gho w1 q) := by
  obtain ⟨n1, n2, n3, n4, n5, n6⟩ := N
  refine cg_ws (S := fun j => j ∈ M.map (fun y => y.1)) C (fun k q hq => ?_) (fun j hj => ?_) (fun a j x y => gho_o (by omega)) (fun x a b => by rw [gho_b (by omega)]; exact n3 x a b) ?_
  · obtain ⟨y, y1, y2⟩ := List.mem_map.mp hq
    exact (n1 y y1).2.1 k q y2.symm
  · obtain ⟨f1, f2, f3⟩ := n6 j hj
    exact ⟨by rw [gho_b (by omega)]; exact f1, by rw [gho_b (by omega)]; exact f2, fun i i0 i1 => by rw [gho_b (by omega)]; exact f3 i i0 i1⟩
  · rw [smi_c (g := q 54) (fun k _ _ => gho_b (by omega))]; exact n4
theorem cg_join {β0 β : Int → Int} {D : Int → Prop} {c1 c0 c2 : Int} {h0 w0 h w1 q : Mem} {M N : List (Int × List Int)} (C : CHG β0 β D c1 c0 h0 w0 h w1) (MH : MB D h M) (NM : NB β D c2 w1 q N) (L : List (Int × Int)) (pr : ∀ y ∈ L, ∃ l, (y.1, l) ∈ M ∧ (y.2, l) ∈ N ∧ l.length ≤ 12000 ∧ ∀ z ∈ l, -128 ≤ z ∧ z ≤ 127) (d1 : (L.map (fun y => y.1)).Nodup) (d2 : (L.map (fun y => y.2)).Nodup) : ∃ (β' : Int → Int) (D' : Int → Prop), CHG β0 β' D' c1 c2 h0 w0 h (gho w1 q) ∧ (∀ k, D k → D' k ∧ β' k = β k) ∧ ∀ y ∈ L, D' y.1 ∧ β' y.1 = y.2 := by
  refine cg_ties L β D (cg_gho C NM) (fun y hy => ?_) d1 d2
  obtain ⟨l, l1, l2, l3, l4⟩ := pr y hy
  obtain ⟨a1, a2, a3, a4⟩ := MH.1 _ l1
  obtain ⟨b1, b2, b3, b4, b5⟩ := NM.1 _ l2
  have s : h (28 + 2 * y.1) 1 = l.length := a4.1
  refine ⟨a1, a2, a3, b1, b2, by rw [gho_b (by omega)]; exact b3, by rw [s]; omega, by rw [gho_b (by omega), s]; exact b4, fun i i0 i1 => ?_⟩
  rw [s] at i1
  have il : i.toNat < l.length := by omega
  have ei : ((i.toNat : Nat) : Int) = i := Int.toNat_of_nonneg i0
  have e1 := a4.2 i.toNat il
  have e2 := b5 i.toNat l[i.toNat] (List.getElem?_eq_getElem il)
  have e3 : l.getD i.toNat 0 = l[i.toNat] := by rw [List.getD_eq_getElem?_getD, List.getElem?_eq_getElem il]; rfl
  rw [ei] at e1 e2
  have e1 : h (29 + 2 * y.1) i = l.getD i.toNat 0 := by rw [← e1, show 29 + 2 * y.1 = 28 + 2 * y.1 + 1 by omega]
  have e2 : q 52 (12000 * y.2 + i) = l[i.toNat] := e2
  rw [gho_b (by omega), e1, e3, e2]
  exact ⟨rfl, l4 _ (List.getElem_mem il)⟩
/-- a font from its lists of tables: (tag, body of the house, body of the model) -/
theorem fnt_ls {β : Int → Int} {D : Int → Prop} {p : Int} {h w : Mem} (L : List (Int × Int × Int)) (p0 : 0 ≤ p ∧ p < 4) (is : h (252 + 6 * p) 0 = 1 ∧ w 55 p = 1) (fl : h (252 + 6 * p) 1 = w 56 p) (l16 : L.length ≤ 16) (F : FL h (252 + 6 * p) (L.map (fun y => (y.1, 28 + 2 * y.2.1)))) (G : GL w p (L.map (fun y => (y.1, y.2.2)))) (tg : ∀ y ∈ L, (0 ≤ y.1 ∧ y.1 ≤ 4294967295) ∧ D y.2.1 ∧ β y.2.1 = y.2.2) (so : L.Pairwise (fun y z => y.1 < z.1)) : FNT β D p h w := by
  refine ⟨by rw [FO_4 p0.2, is.1, is.2], Or.inr is.2, fun _ => ?_⟩
  rw [FO_4 p0.2]
  obtain ⟨f1, f2⟩ := F
  obtain ⟨g1, g2⟩ := G
  rw [List.length_map] at f1 g1
  refine ⟨⟨fl, by rw [f1, g1], by omega, by omega⟩, fun i i0 i1 => ?_⟩
  rw [g1] at i1
  have il : i.toNat < L.length := by omega
  have ei : ((i.toNat : Nat) : Int) = i := Int.toNat_of_nonneg i0
  have a1 := f2 i.toNat _ (by rw [List.getElem?_map, List.getElem?_eq_getElem il]; rfl)
  have a2 := g2 i.toNat _ (by rw [List.getElem?_map, List.getElem?_eq_getElem il]; rfl)
  rw [ei] at a1 a2
  obtain ⟨t1, t2, t3⟩ := tg _ (List.getElem_mem il)
  refine ⟨⟨by rw [a1.1, a2.1], by rw [a2.1]; exact t1⟩, fun ip => ?_, L[i.toNat].2.1, t2, a1.2, by rw [a2.2, t3]⟩
  have jl : (i - 1).toNat < L.length := by omega
  have ej : (((i - 1).toNat : Nat) : Int) = i - 1 := Int.toNat_of_nonneg (by omega)
  have a3 := g2 (i - 1).toNat _ (by rw [List.getElem?_map, List.getElem?_eq_getElem jl]; rfl)
  rw [ej] at a3
  rw [show 16 * p + i - 1 = 16 * p + (i - 1) by omega, a3.1, a2.1]
  exact List.pairwise_iff_getElem.mp so _ _ jl il (by omega)
