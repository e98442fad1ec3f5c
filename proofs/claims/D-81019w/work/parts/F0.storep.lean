set_option maxRecDepth 100000
/-- the first that is free, or all are taken -/
theorem free_or {u : Int → Int} : ∀ N : Nat, (∀ k : Int, 0 ≤ k → k < N → u k = 0 ∨ u k = 1) → (∃ k : Int, 0 ≤ k ∧ k < N ∧ u k = 0 ∧ ∀ i : Int, 0 ≤ i → i < k → u i = 1) ∨ ((∀ k : Int, 0 ≤ k → k < N → u k = 1) ∧ sgm u N = N) := by
  intro N
  induction N with
  | zero => exact fun _ => Or.inr ⟨fun k a b => by omega, rfl⟩
  | succ N ih =>
    intro b
    rcases ih (fun k a c => b k a (by omega)) with ⟨k, a, c, d, e⟩ | ⟨a, c⟩
    · exact Or.inl ⟨k, a, by omega, d, e⟩
    · rcases b N (by omega) (by omega) with g | g
      · exact Or.inl ⟨N, by omega, by omega, g, fun i x y => a i x y⟩
      · refine Or.inr ⟨fun k x y => ?_, ?_⟩
        · by_cases q : k = N
          · rw [q]; exact g
          · exact a k x (by omega)
        · show sgm u N + u N = _
          rw [c, g]; omega
theorem free_ex {u : Int → Int} {N : Nat} (b : ∀ k : Int, 0 ≤ k → k < N → u k = 0 ∨ u k = 1) (c : sgm u N < N) : ∃ k : Int, 0 ≤ k ∧ k < N ∧ u k = 0 ∧ ∀ i : Int, 0 ≤ i → i < k → u i = 1 := by
  rcases free_or N b with g | g
  · exact g
  · omega
/-- slot j (font j / 16, table j % 16) has body x -/
def slo (w : Mem) (x j : Int) : Int := if w 55 (j / 16) = 1 ∧ j % 16 < w 57 (j / 16) ∧ w 59 j = x then 1 else 0
/-- whether a slot below N has body x -/
def uI (w : Mem) (N x : Int) : Int := if 0 < smi (slo w x) N then 1 else 0
theorem slo_r (w : Mem) (x j : Int) : slo w x j = 0 ∨ slo w x j = 1 := by unfold slo; split <;> omega
theorem sgm_p {f : Int → Int} (p : ∀ k, 0 ≤ f k) : ∀ N : Nat, 0 ≤ sgm f N := by
  intro N
  induction N with
  | zero => exact Int.le_refl _
  | succ N ih => show 0 ≤ sgm f N + f N; have := p N; omega
theorem uI_r (w : Mem) (N x : Int) : uI w N x = 0 ∨ uI w N x = 1 := by unfold uI; split <;> omega
theorem uI_0 (w : Mem) (x : Int) : uI w 0 x = 0 := rfl
theorem uI_sk {w : Mem} {N x : Int} (n0 : 0 ≤ N) (i : w 55 (N / 16) = 1 → ¬ N % 16 < w 57 (N / 16)) : uI w (N + 1) x = uI w N x := by
  unfold uI
  rw [smi_s n0, show slo w x N = 0 by unfold slo; rw [if_neg (fun z => i z.1 z.2.1)], Int.add_zero]
theorem uI_st {w : Mem} {N : Int} (n0 : 0 ≤ N) (a : w 55 (N / 16) = 1) (b : N % 16 < w 57 (N / 16)) : uI w (N + 1) = ufn (uI w N) (w 59 N) 1 := by
  funext x
  have p := sgm_p (f := slo w x) (fun k => by have := slo_r w x k; omega) N.toNat
  have p : 0 ≤ smi (slo w x) N := p
  unfold ufn
  by_cases g : x = w 59 N
  · unfold uI
    rw [if_pos g, smi_s n0, show slo w x N = 1 by unfold slo; rw [if_pos ⟨a, b, g.symm⟩], if_pos (by omega)]
  · unfold uI
    rw [if_neg g, smi_s n0, show slo w x N = 0 by unfold slo; rw [if_neg (fun z => g z.2.2.symm)], Int.add_zero]
theorem uI_sks {w : Mem} {N x : Int} (n0 : 0 ≤ N) : ∀ d : Nat, (∀ j, N ≤ j → j < N + d → w 55 (j / 16) = 1 → ¬ j % 16 < w 57 (j / 16)) → uI w (N + d) x = uI w N x := by
  intro d
  induction d with
  | zero => intro _; rw [show N + ((0 : Nat) : Int) = N by omega]
  | succ d ih =>
    intro c
    rw [show N + ((d + 1 : Nat) : Int) = N + d + 1 by omega, uI_sk (by omega) (c _ (by omega) (by omega)), ih (fun j a b => c j a (by omega))]
/-- from a font's end to the next -/
theorem uI_nx {w : Mem} {p i x : Int} (p0 : 0 ≤ p) (i0 : 0 ≤ i ∧ i ≤ 16) (c : w 55 p = 1 → w 57 p ≤ i) : uI w (16 * (p + 1)) x = uI w (16 * p + i) x := by
  have := uI_sks (w := w) (N := 16 * p + i) (x := x) (by omega) (16 - i).toNat (fun j a b g => by
    have e : j / 16 = p := by omega
    rw [e] at g ⊢
    have := c g
    omega)
  rw [← this, show 16 * p + i + ((16 - i).toNat : Int) = 16 * (p + 1) by omega]
theorem uI_iff {w : Mem} {x : Int} : ∀ N : Nat, uI w N x = 1 ↔ ∃ j : Int, 0 ≤ j ∧ j < N ∧ w 55 (j / 16) = 1 ∧ j % 16 < w 57 (j / 16) ∧ w 59 j = x := by
  intro N
  induction N with
  | zero => constructor
            · intro g; have : uI w 0 x = 0 := uI_0 w x; exact absurd g (by rw [show ((0 : Nat) : Int) = 0 from rfl, this]; omega)
            · rintro ⟨j, a, b, _⟩; omega
  | succ N ih =>
    rw [show ((N + 1 : Nat) : Int) = (N : Int) + 1 by omega]
    by_cases v : w 55 ((N : Int) / 16) = 1 ∧ (N : Int) % 16 < w 57 ((N : Int) / 16)
    · rw [uI_st (by omega) v.1 v.2]
      unfold ufn
      by_cases g : x = w 59 N
      · rw [if_pos g]
        exact ⟨fun _ => ⟨N, by omega, by omega, v.1, v.2, g.symm⟩, fun _ => rfl⟩
      · rw [if_neg g, ih]
        constructor
        · rintro ⟨j, a, b, c⟩; exact ⟨j, a, by omega, c⟩
        · rintro ⟨j, a, b, c, d, e⟩
          refine ⟨j, a, ?_, c, d, e⟩
          by_cases q : j = N
          · rw [q] at e; exact absurd e.symm g
          · omega
    · rw [uI_sk (by omega) (fun a b => v ⟨a, b⟩), ih]
      constructor
      · rintro ⟨j, a, b, c⟩; exact ⟨j, a, by omega, c⟩
      · rintro ⟨j, a, b, c, d, e⟩
        refine ⟨j, a, ?_, c, d, e⟩
        by_cases q : j = N
        · rw [q] at c d; exact absurd ⟨c, d⟩ v
        · omega
theorem smi_u {f : Int → Int} {x v N : Int} (x0 : 0 ≤ x) (xN : x < N) : smi (ufn f x v) N = smi f N - f x + v := sgm_u x0 _ (by omega)
theorem smi_le {f g : Int → Int} {N : Int} (c : ∀ k : Int, 0 ≤ k → k < N → f k ≤ g k) : smi f N ≤ smi g N := sgm_le _ (fun k a b => c k a (by omega))
/-- bytes of bodies -/
theorem smi_um {f g : Int → Int} {x N : Int} (x0 : 0 ≤ x) (xN : x < N) (f0 : f x = 0) : smi (fun b => ufn f x 1 b * g b) N = smi (fun b => f b * g b) N + g x := by
  have e : (fun b => ufn f x 1 b * g b) = ufn (fun b => f b * g b) x (g x) := by
    funext b
    unfold ufn
    by_cases q : b = x
    · rw [if_pos q, if_pos q, q]; omega
    · rw [if_neg q, if_neg q]
  rw [e, smi_u x0 xN]
  show smi (fun b => f b * g b) N - f x * g x + g x = _
  rw [f0]; omega
