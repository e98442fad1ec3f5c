set_option maxRecDepth 100000
/-- the font at a has these tables -/
def FL (h : Mem) (a : Int) (L : List (Int × Int)) : Prop := h a 2 = L.length ∧ ∀ (i : Nat) (y : Int × Int), L[i]? = some y → h (a + 1) i = y.1 ∧ h (a + 2) i = y.2
/-- the model's font p has these tables -/
def GL (w : Mem) (p : Int) (L : List (Int × Int)) : Prop := w 57 p = L.length ∧ ∀ (i : Nat) (y : Int × Int), L[i]? = some y → w 58 (16 * p + i) = y.1 ∧ w 59 (16 * p + i) = y.2
section
variable {n m : Int} {h w : Mem}
/-- a table is put behind all others -/
theorem c_putA {a v x : Int} {L : List (Int × Int)} (a17 : 17 ≤ a) (z : ((gC.1 (a + 1)).2 : Int) = 16 ∧ ((gC.1 (a + 2)).2 : Int) = 16) (B : FL h a L) (r : L.length < 16) (xn : x ≠ 0) (lt : ∀ y ∈ L, y.1 < v ∧ y.2 ≠ 0) : ∃ h1 : Mem, Ev gC 484 [vR 7 a, vL v, vR 2 x] n h (.inl (some (vI 1))) n h1 ∧ FL h1 a (L ++ [(v, x)]) ∧ Fz (ptC a) h h1 := by
  obtain ⟨b1, b2⟩ := B
  have at9 : ∀ i : Int, 0 ≤ i → i < h a 2 → ∃ y, L[i.toNat]? = some y ∧ y ∈ L ∧ h (a + 1) i = y.1 ∧ h (a + 2) i = y.2 := fun i i0 i1 => by
    have hi : i.toNat < L.length := by omega
    refine ⟨L[i.toNat], List.getElem?_eq_getElem hi, List.getElem_mem hi, ?_⟩
    have := b2 i.toNat _ (List.getElem?_eq_getElem hi)
    rw [show ((i.toNat : Nat) : Int) = i by omega] at this
    exact this
  rcases c_put9 (n := n) (h := h) (a := a) (v := v) (x := x) (k := h a 2) a17 (by omega) z xn (by omega) (fun i i0 i1 => by
    obtain ⟨y, _, y1, y2, _⟩ := at9 i i0 i1
    rw [y2]; exact (lt y y1).1) (fun i i0 i1 => by omega) (fun i i0 i1 => by
    obtain ⟨y, _, y1, _, y3⟩ := at9 i i0 i1
    rw [y3]; exact (lt y y1).2) with ⟨g, _⟩ | ⟨_, g, _⟩ | ⟨_, _, h1, ev, e1, e2, F⟩
  · omega
  · omega
  · refine ⟨h1, ev, ⟨by rw [e1, b1, List.length_append]; show (L.length : Int) + 1 = ((L.length + 1 : Nat) : Int); omega, fun i y hy => ?_⟩, F⟩
    have hl : i < (L ++ [(v, x)]).length := (List.getElem?_eq_some_iff.mp hy).1
    rw [List.length_append] at hl
    have hl : i < L.length + 1 := hl
    have E := e2 i (by omega) (by omega)
    rw [E.1, E.2]
    unfold insf
    by_cases g : i < L.length
    · rw [List.getElem?_append_left g] at hy
      rw [if_pos (by omega), if_pos (by omega)]
      exact b2 i y hy
    · rw [List.getElem?_append_right (by omega), show i - L.length = 0 by omega] at hy
      have hy : (v, x) = y := Option.some.inj hy
      rw [if_neg (by omega), if_pos (by omega), if_neg (by omega), if_pos (by omega), ← hy]
      exact ⟨rfl, rfl⟩
/-- a table comes in between -/
theorem m_giveL {p v x : Int} {L R : List (Int × Int)} (p0 : 0 ≤ p ∧ p < 8) (B : GL w p (L ++ R)) (r : L.length + R.length < 16) (lt : ∀ y ∈ L, y.1 < v) (gt : ∀ y ∈ R, v < y.1) : ∃ w1 : Mem, Ev gM 319 [vR 33 17, vI p, vL v, vI x] m w (.inl none) m w1 ∧ GL w1 p (L ++ (v, x) :: R) ∧ Fz (ptM p) w w1 := by
  obtain ⟨b1, b2⟩ := B
  rw [List.length_append] at b1
  obtain ⟨w1, ev, e1, e2, F⟩ := m_give2 (m := m) (w := w) (p := p) (v := v) (x := x) (k := L.length) p0 (by omega) (by omega) (fun i i0 i1 => by
    have hi : i.toNat < L.length := by omega
    have := (b2 i.toNat L[i.toNat] (by rw [List.getElem?_append_left hi]; exact List.getElem?_eq_getElem hi)).1
    rw [show ((i.toNat : Nat) : Int) = i by omega] at this
    rw [this]; exact lt _ (List.getElem_mem hi)) (fun i i0 i1 => by
    have hi : i.toNat - L.length < R.length := by omega
    have := (b2 i.toNat R[i.toNat - L.length] (by rw [List.getElem?_append_right (by omega)]; exact List.getElem?_eq_getElem hi)).1
    rw [show ((i.toNat : Nat) : Int) = i by omega] at this
    rw [this]; exact gt _ (List.getElem_mem hi))
  refine ⟨w1, ev, ⟨by rw [e1, b1, List.length_append, List.length_cons]; omega, fun i y hy => ?_⟩, F⟩
  have hl : i < (L ++ (v, x) :: R).length := (List.getElem?_eq_some_iff.mp hy).1
  rw [List.length_append, List.length_cons] at hl
  have E := e2 i (by omega) (by omega)
  rw [E.1, E.2]
  unfold insf
  by_cases g : i < L.length
  · rw [List.getElem?_append_left g] at hy
    rw [if_pos (by omega), if_pos (by omega)]
    exact b2 i y (by rw [List.getElem?_append_left g]; exact hy)
  · rw [List.getElem?_append_right (by omega)] at hy
    by_cases g2 : i = L.length
    · rw [show i - L.length = 0 by omega] at hy
      have hy : (v, x) = y := Option.some.inj hy
      rw [if_neg (by omega), if_pos (by omega), if_neg (by omega), if_pos (by omega), ← hy]
      exact ⟨rfl, rfl⟩
    · rw [show i - L.length = (i - 1 - L.length) + 1 by omega, List.getElem?_cons_succ] at hy
      have := b2 (i - 1) y (by rw [List.getElem?_append_right (by omega)]; exact hy)
      rw [show (((i - 1 : Nat)) : Int) = (i : Int) - 1 by omega] at this
      rw [if_neg (by omega), if_neg (by omega), if_neg (by omega), if_neg (by omega)]
      exact this
end
