set_option maxRecDepth 100000
section
variable {A B : Qt → Prop} {Φ : Out → Int → Mem → Out → Int → Mem → Prop} {KL KM : Qt → Qt} {n m : Int} {h w : Mem}
theorem cg_n {β0 β : Int → Int} {D : Int → Prop} {c1 c2 p : Int} {h0 w0 : Mem} (C : CHG β0 β D c1 c2 h0 w0 h w) (p0 : 0 ≤ p ∧ p < 4) (hp : w 55 p = 1) : (h (252 + 6 * p) 1 = w 56 p ∧ h (252 + 6 * p) 2 = w 57 p ∧ 0 ≤ w 57 p ∧ w 57 p ≤ 16) ∧ ∀ i, 0 ≤ i → i < w 57 p → (h (252 + 6 * p + 1) i = w 58 (16 * p + i) ∧ 0 ≤ w 58 (16 * p + i) ∧ w 58 (16 * p + i) ≤ 4294967295) ∧ (0 < i → w 58 (16 * p + i - 1) < w 58 (16 * p + i)) ∧ ∃ k, D k ∧ h (252 + 6 * p + 2) i = 28 + 2 * k ∧ w 59 (16 * p + i) = β k := by
  have := (C.2.2.2.1 p p0.1 p0.2).2.2 hp
  rw [FO_4 p0.2] at this
  exact this
/-- a table is put: put (484) and give (319) -/
theorem p_putN {β : Int → Int} {D : Int → Prop} {p v k : Int} (N : FNT β D p h w) (Bd : BD β D h w) (p0 : 0 ≤ p ∧ p < 4) (hp : w 55 p = 1) (v0 : 0 ≤ v ∧ v ≤ 4294967295) (kD : D k) : (w 57 p = 16 ∧ (∀ i, 0 ≤ i → i < 16 → w 58 (16 * p + i) ≠ v) ∧ Ev gC 484 [vR 7 (252 + 6 * p), vL v, vR 2 (28 + 2 * k)] n h (.inl (some (vI 0))) n h) ∨ (¬ (w 57 p = 16 ∧ ∀ i, 0 ≤ i → i < 16 → w 58 (16 * p + i) ≠ v) ∧ ∃ h1 w1 : Mem, Ev gC 484 [vR 7 (252 + 6 * p), vL v, vR 2 (28 + 2 * k)] n h (.inl (some (vI 1))) n h1 ∧ Ev gM 319 [vR 33 17, vI p, vL v, vI (β k)] m w (.inl none) m w1 ∧ FNT β D p h1 w1 ∧ Fz (ptC (252 + 6 * p)) h h1 ∧ Fz (ptM p) w w1 ∧ w 57 p ≤ w1 57 p ∧ w1 57 p ≤ w 57 p + 1 ∧ ∀ i, 0 ≤ i → i < w1 57 p → (w1 59 (16 * p + i) = β k ∧ w1 58 (16 * p + i) = v) ∨ ∃ i', 0 ≤ i' ∧ i' < w 57 p ∧ w1 59 (16 * p + i) = w 59 (16 * p + i') ∧ w1 58 (16 * p + i) = w 58 (16 * p + i')) := by
  have f9 := N.2.2 hp
  rw [FO_4 p0.2] at f9
  obtain ⟨⟨f1, f2, f3, f4⟩, f5⟩ := f9
  have z := (fsz6 (p := p) p0).1
  have kb := (Bd.1 k kD).1
  have ft1 := N.1
  rw [FO_4 p0.2] at ft1
  obtain ⟨q, q0, q1, q2⟩ := lub_ex (f := fun i => w 58 (16 * p + i)) (v := v) f3 (fun i a b => by
    have := (f5 i (by omega) b).2.1 a
    show w 58 (16 * p + (i - 1)) < w 58 (16 * p + i)
    rw [show 16 * p + (i - 1) = 16 * p + i - 1 by omega]; exact this)
  have q1 : ∀ i, 0 ≤ i → i < q → w 58 (16 * p + i) < v := q1
  have q2 : ∀ i, q ≤ i → i < w 57 p → v ≤ w 58 (16 * p + i) := q2
  have q3 : ∀ i, q < i → i < w 57 p → v < w 58 (16 * p + i) := fun i a b => by
    have x1 := q2 (i - 1) (by omega) (by omega)
    have x2 := (f5 i (by omega) b).2.1 (by omega)
    rw [show 16 * p + (i - 1) = 16 * p + i - 1 by omega] at x1
    omega
  have hw : ∀ i, 0 ≤ i → i < w 57 p → h (252 + 6 * p + 1) i = w 58 (16 * p + i) := fun i a b => (f5 i a b).1.1
  rcases c_put9 (n := n) (h := h) (a := 252 + 6 * p) (v := v) (x := 28 + 2 * k) (k := q) (by omega) (by omega) z (by omega) (by omega) (fun i a b => by rw [hw i a (by omega)]; exact q1 i a b) (fun i a b => by rw [hw i (by omega) (by omega)]; exact q2 i a (by omega)) (fun i a b => by
    obtain ⟨_, _, k', d, e, _⟩ := f5 i a (by omega)
    have := (Bd.1 k' d).1
    omega) with ⟨g1, g2, ev⟩ | ⟨g, c16, ev⟩ | ⟨g, c16, h1, ev, e1, e2, F⟩
  · rw [f2] at g1
    rw [hw q q0.1 g1] at g2
    refine Or.inr ⟨fun z => z.2 q q0.1 (by omega) g2, _, _, ev, m_give1 (by omega) (by omega) ⟨q0.1, g1⟩ q1 g2, ?_, Fz_st Fz_0 (by unfold ptC; omega), Fz_st Fz_0 (by unfold ptM; omega), by rw [st_na (by omega)]; omega, by rw [st_na (by omega)]; omega, fun i i0 i1 => by
      rw [st_na (by omega)] at i1
      by_cases e : i = q
      · rw [e, st_eq, st_na (by omega)]; exact Or.inl ⟨rfl, g2⟩
      · rw [st_nj (by omega), st_na (show (58 : Int) ≠ 59 by omega)]; exact Or.inr ⟨i, i0, i1, rfl, rfl⟩⟩
    refine ⟨by rw [FO_4 p0.2, st_na (by omega), st_na (by omega)]; exact ft1, by rw [st_na (by omega)]; exact Or.inr hp, fun _ => ?_⟩
    rw [FO_4 p0.2]
    refine ⟨by rw [st_na (by omega), st_na (by omega), st_na (by omega), st_na (by omega)]; exact ⟨f1, f2, f3, f4⟩, fun i i0 i1 => ?_⟩
    rw [st_na (by omega)] at i1
    obtain ⟨x1, x2, k', x3, x4, x5⟩ := f5 i i0 i1
    rw [st_na (show (252 + 6 * p + 1) ≠ 252 + 6 * p + 2 by omega), st_na (show (58 : Int) ≠ 59 by omega), st_na (show (58 : Int) ≠ 59 by omega)]
    refine ⟨x1, x2, ?_⟩
    by_cases e : i = q
    · exact ⟨k, kD, by rw [e, st_eq], by rw [e, st_eq]⟩
    · exact ⟨k', x3, by rw [st_nj e]; exact x4, by rw [st_nj (by omega)]; exact x5⟩
  · rw [f2] at c16 g
    refine Or.inl ⟨c16, fun i a b => ?_, ev⟩
    by_cases e1 : i < q
    · have := q1 i a e1; omega
    · by_cases e2 : i = q
      · rw [e2]
        have := g (by omega)
        rw [hw q q0.1 (by omega)] at this
        omega
      · have := q3 i (by omega) (by omega); omega
  · rw [f2] at c16 g e1 e2
    obtain ⟨w1, ev2, d1, d2, G⟩ := m_give2 (m := m) (w := w) (p := p) (v := v) (x := β k) (k := q) (by omega) (by omega) q0 q1 (fun i a b => by
      by_cases e : i = q
      · rw [e]
        have := g (by omega)
        rw [hw q q0.1 (by omega)] at this
        exact this
      · exact q3 i (by omega) b)
    refine Or.inr ⟨fun z => by omega, h1, w1, ev, ev2, ?_, F, G, by omega, by omega, fun i i0 i1 => by
      rw [(d2 i i0 (by omega)).2, (d2 i i0 (by omega)).1]
      unfold insf
      by_cases y1 : i < q
      · rw [if_pos y1, if_pos y1]; exact Or.inr ⟨i, i0, by omega, rfl, rfl⟩
      · rw [if_neg y1, if_neg y1]
        by_cases y2 : i = q
        · rw [if_pos y2, if_pos y2]; exact Or.inl ⟨rfl, rfl⟩
        · rw [if_neg y2, if_neg y2]; exact Or.inr ⟨i - 1, by omega, by omega, rfl, rfl⟩⟩
    have gq : q < w 57 p → v < w 58 (16 * p + q) := fun y => by
      have := g y
      rw [hw q q0.1 y] at this
      exact this
    refine ⟨by rw [FO_4 p0.2, F _ _ (by unfold ptC; omega), G _ _ (by unfold ptM; omega)]; exact ft1, by rw [G _ _ (by unfold ptM; omega)]; exact Or.inr hp, fun _ => ?_⟩
    rw [FO_4 p0.2]
    refine ⟨⟨by rw [F _ _ (by unfold ptC; omega), G _ _ (by unfold ptM; omega)]; exact f1, by omega, by omega, by omega⟩, fun i i0 i1 => ?_⟩
    have E := e2 i i0 (by omega)
    have E' := d2 i i0 (by omega)
    have P' := fun (z : 0 < i) => (d2 (i - 1) (by omega) (by omega)).1
    rw [show 16 * p + (i - 1) = 16 * p + i - 1 by omega] at P'
    rw [E.1, E.2, E'.1, E'.2]
    unfold insf at P' ⊢
    by_cases y1 : i < q
    · obtain ⟨x1, x2, k', x3, x4, x5⟩ := f5 i i0 (by omega)
      rw [if_pos y1, if_pos y1, if_pos y1, if_pos y1]
      refine ⟨x1, fun z => ?_, k', x3, x4, x5⟩
      rw [P' z, if_pos (by omega)]
      show w 58 (16 * p + (i - 1)) < w 58 (16 * p + i)
      rw [show 16 * p + (i - 1) = 16 * p + i - 1 by omega]; exact x2 z
    · rw [if_neg y1, if_neg y1, if_neg y1, if_neg y1]
      by_cases y2 : i = q
      · rw [if_pos y2, if_pos y2, if_pos y2, if_pos y2]
        refine ⟨⟨rfl, v0⟩, fun z => ?_, k, kD, rfl, rfl⟩
        rw [P' z, if_pos (by omega)]
        exact q1 (i - 1) (by omega) (by omega)
      · obtain ⟨x1, x2, k', x3, x4, x5⟩ := f5 (i - 1) (by omega) (by omega)
        rw [if_neg y2, if_neg y2, if_neg y2, if_neg y2]
        refine ⟨x1, fun z => ?_, k', x3, x4, x5⟩
        rw [P' z, if_neg (by omega)]
        show (if i - 1 = q then v else w 58 (16 * p + (i - 1 - 1))) < w 58 (16 * p + (i - 1))
        by_cases y3 : i - 1 = q
        · rw [if_pos y3, y3]; exact gq (by omega)
        · rw [if_neg y3]
          have := x2 (by omega)
          rw [show 16 * p + (i - 1 - 1) = 16 * p + (i - 1) - 1 by omega]; exact this
/-- A TABLE IS PUT, in a change -/
theorem p_put9 {β0 β : Int → Int} {D : Int → Prop} {c1 c2 p v k : Int} {h0 w0 : Mem} (C : CHG β0 β D c1 c2 h0 w0 h w) (p0 : 0 ≤ p ∧ p < 4) (hp : w 55 p = 1) (v0 : 0 ≤ v ∧ v ≤ 4294967295) (kD : D k) (tx : ∀ q i, (0 ≤ q ∧ q < 4) → w 55 q = 1 → (0 ≤ i ∧ i < w 57 q ∧ i < 16) → w 59 (16 * q + i) = β k → w 58 (16 * q + i) = v) : (w 57 p = 16 ∧ (∀ i, 0 ≤ i → i < 16 → w 58 (16 * p + i) ≠ v) ∧ Ev gC 484 [vR 7 (252 + 6 * p), vL v, vR 2 (28 + 2 * k)] n h (.inl (some (vI 0))) n h) ∨ (¬ (w 57 p = 16 ∧ ∀ i, 0 ≤ i → i < 16 → w 58 (16 * p + i) ≠ v) ∧ ∃ h1 w1 : Mem, Ev gC 484 [vR 7 (252 + 6 * p), vL v, vR 2 (28 + 2 * k)] n h (.inl (some (vI 1))) n h1 ∧ Ev gM 319 [vR 33 17, vI p, vL v, vI (β k)] m w (.inl none) m w1 ∧ CHG β0 β D c1 c2 h0 w0 h1 w1 ∧ Fz (ptC (252 + 6 * p)) h h1 ∧ Fz (ptM p) w w1 ∧ w 57 p ≤ w1 57 p ∧ w1 57 p ≤ w 57 p + 1) := by
  rcases p_putN (n := n) (m := m) (C.2.2.2.1 p p0.1 p0.2) C.2.2.1 p0 hp v0 kD with g | ⟨g, h1, w1, a1, a2, a3, a4, a5, a6⟩
  · exact Or.inl g
  · exact Or.inr ⟨g, h1, w1, a1, a2, cg_f C p0 (Fz_mo a4 (fun a j g => by unfold ptC at g; omega)) (Fz_mo a5 (fun a j g => by unfold ptM at g; omega)) a3 (TG_p C.2.2.2.2.2.2.2 p0 hp (fun q x y => ⟨a5 _ _ (by unfold ptM; omega), fun z => a5 _ _ (by unfold ptM; omega)⟩) (fun j x y z => ⟨a5 _ _ (by unfold ptM; omega), a5 _ _ (by unfold ptM; omega)⟩) tx (fun i x y z => by
      rcases a6.2.2 i x y with u | ⟨i', u1, u2, u3, u4⟩
      · exact Or.inl u
      · have := (((C.2.2.2.1 p p0.1 p0.2).2.2 hp).1).2.2.2
        exact Or.inr ⟨i', ⟨u1, u2, by omega⟩, u3, u4⟩)), a4, a5, a6.1, a6.2.1⟩
/-- a loose body of the model is in no table -/
theorem cg_nb {β0 β : Int → Int} {D : Int → Prop} {c1 c2 b v : Int} {h0 w0 : Mem} (C : CHG β0 β D c1 c2 h0 w0 h w) (nb : ∀ k, D k → β k ≠ b) : ∀ q i, (0 ≤ q ∧ q < 4) → w 55 q = 1 → (0 ≤ i ∧ i < w 57 q ∧ i < 16) → w 59 (16 * q + i) = b → w 58 (16 * q + i) = v := fun q i q0 hq i0 z => by
  obtain ⟨_, f5⟩ := (C.2.2.2.1 q q0.1 q0.2).2.2 hq
  obtain ⟨_, _, k, d, _, e⟩ := f5 i i0.1 i0.2.1
  exact absurd (e.symm.trans z) (nb k d)
end
