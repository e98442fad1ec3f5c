set_option maxRecDepth 100000
theorem aln_4 {g : Int → Int} {a b e : Int} (q : al4 g a b) (be : b + 4 ≤ e) (e2 : e - b ≤ 16000) : aln g a b e 16000 0 = aln g a b e 16000 4 := by
  have i := al4_i q
  have u : ∀ (d : Nat) (z : Int), 0 ≤ z → z < 4 → aln g a b e (d + 1) z = aln g a b e d (z + 1) := by
    intro d z z0 z1
    show (if b + z < e then (if g (a + z) = g (b + z) then aln g a b e d (z + 1) else z) else z) = _
    rw [if_pos (by omega), if_pos (i z z0 z1)]
  rw [aln_s 16000 16004 0 (by omega) (by omega), u 16003 0 (by omega) (by omega), u 16002 _ (by omega) (by omega), u 16001 _ (by omega) (by omega), u 16000 _ (by omega) (by omega)]
  rfl
theorem bst_v {g : Int → Int} {b e v u l : Int} (q : ¬ v < 16) (d : Nat) : bst g b e d v u l = (u, l) := by
  cases d with
  | zero => rfl
  | succ d => unfold bst; rw [if_neg q]
theorem aln_ge {g : Int → Int} {a b e : Int} : ∀ (d : Nat) (z : Int), z ≤ aln g a b e d z := by
  intro d
  induction d with
  | zero => intro z; exact Int.le_refl _
  | succ d ih =>
    intro z
    have := ih (z + 1)
    unfold aln
    by_cases g1 : b + z < e
    · rw [if_pos g1]
      by_cases g2 : g (a + z) = g (b + z)
      · rw [if_pos g2]; omega
      · rw [if_neg g2]; omega
    · rw [if_neg g1]; omega
theorem lst_s {f : Int → Int} {k : Int} {p : Nat} : lst f k (p + 1) = if f p = k then (p : Int) else lst f k p := rfl
theorem lst_r {f : Int → Int} {k : Int} : ∀ p : Nat, -1 ≤ lst f k p ∧ lst f k p < p := by
  intro p
  induction p with
  | zero => exact ⟨Int.le_refl _, by show (-1 : Int) < 0; omega⟩
  | succ p ih => rw [lst_s]; by_cases q : f p = k
                 · rw [if_pos q]; omega
                 · rw [if_neg q]; omega
