set_option maxRecDepth 100000
theorem aln_c {g g' : Int → Int} {a b e : Int} (c : ∀ i j, 0 ≤ i → i < e → 0 ≤ j → j < e → (g i = g j ↔ g' i = g' j)) (a0 : 0 ≤ a) (ab : a ≤ b) : ∀ (d : Nat) (z : Int), 0 ≤ z → aln g a b e d z = aln g' a b e d z := by
  intro d
  induction d with
  | zero => intro z _; rfl
  | succ d ih =>
    intro z z0
    unfold aln
    by_cases q : b + z < e
    · rw [if_pos q, if_pos q, ih (z + 1) (by omega)]
      by_cases p : g (a + z) = g (b + z)
      · rw [if_pos p, if_pos ((c _ _ (by omega) (by omega) (by omega) q).mp p)]
      · rw [if_neg p, if_neg (fun x => p ((c _ _ (by omega) (by omega) (by omega) q).mpr x))]
    · rw [if_neg q, if_neg q]
theorem al4_c {g g' : Int → Int} {a b e : Int} (c : ∀ i j, 0 ≤ i → i < e → 0 ≤ j → j < e → (g i = g j ↔ g' i = g' j)) (a0 : 0 ≤ a) (ab : a ≤ b) (be : b + 4 ≤ e) : al4 g a b ↔ al4 g' a b := by
  have c0 := c a b (by omega) (by omega) (by omega) (by omega)
  have c1 := c (a + 1) (b + 1) (by omega) (by omega) (by omega) (by omega)
  have c2 := c (a + 2) (b + 2) (by omega) (by omega) (by omega) (by omega)
  have c3 := c (a + 3) (b + 3) (by omega) (by omega) (by omega) (by omega)
  unfold al4
  rw [c0, c1, c2, c3]
theorem bst_c {g g' : Int → Int} {b e : Int} (c : ∀ i j, 0 ≤ i → i < e → 0 ≤ j → j < e → (g i = g j ↔ g' i = g' j)) (be : b + 4 ≤ e) : ∀ (d : Nat) (v u l : Int), (d : Int) ≤ b → bst g b e d v u l = bst g' b e d v u l := by
  intro d
  induction d with
  | zero => intro v u l _; rfl
  | succ d ih =>
    intro v u l db
    unfold bst
    rw [aln_c c (by omega) (by omega) 16000 4 (by omega), ih _ _ _ (by omega), ih _ _ _ (by omega)]
    by_cases p : al4 g d b
    · rw [if_pos p, if_pos ((al4_c c (by omega) (by omega) be).mp p)]
    · rw [if_neg p, if_neg (fun x => p ((al4_c c (by omega) (by omega) be).mpr x))]
/-- what the best is: none, or a place before with at least four bytes alike -/
theorem bst_r {g : Int → Int} {b e : Int} (be : b + 4 ≤ e) : ∀ (d : Nat) (v u l : Int), (d : Int) ≤ b → ((u = -1 ∧ l = 0) ∨ ((0 ≤ u ∧ u < b) ∧ 4 ≤ l ∧ b + l ≤ e)) → ((bst g b e d v u l).1 = -1 ∧ (bst g b e d v u l).2 = 0) ∨ ((0 ≤ (bst g b e d v u l).1 ∧ (bst g b e d v u l).1 < b) ∧ 4 ≤ (bst g b e d v u l).2 ∧ b + (bst g b e d v u l).2 ≤ e) := by
  intro d
  induction d with
  | zero => intro v u l _ h; exact h
  | succ d ih =>
    intro v u l db h
    unfold bst
    have up : ∀ (f : Nat) (z : Int), b + z ≤ e → b + aln g d b e f z ≤ e := by
      intro f
      induction f with
      | zero => intro z q; exact q
      | succ f ihf =>
        intro z q
        unfold aln
        by_cases p : b + z < e
        · rw [if_pos p]
          by_cases p2 : g (d + z) = g (b + z)
          · rw [if_pos p2]; exact ihf (z + 1) (by omega)
          · rw [if_neg p2]; exact q
        · rw [if_neg p]; exact q
    have a1 := up 16000 4 (by omega)
    have a2 := aln_ge (g := g) (a := d) (b := b) (e := e) 16000 4
    by_cases q : v < 16
    · rw [if_pos q]
      by_cases p : al4 g d b
      · rw [if_pos p]
        refine ih _ _ _ (by omega) ?_
        by_cases x : l < aln g d b e 16000 4
        · rw [if_pos x, if_pos x]; exact Or.inr (by omega)
        · rw [if_neg x, if_neg x]; exact h
      · rw [if_neg p]; exact ih _ _ _ (by omega) h
    · rw [if_neg q]; exact h
