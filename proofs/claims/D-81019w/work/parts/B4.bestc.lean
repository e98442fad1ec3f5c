set_option maxRecDepth 100000
/-- fours are alike where their bytes are -/
theorem u4_al {h : Mem} {t a b : Int} : (u4v h t a = u4v h t b) = al4 (fun i => h (t + 1) i % 256) a b := by
  unfold u4v u2v
  rw [wr_eq, wr_eq, Int.add_assoc a 2 1, Int.add_assoc b 2 1]
  simp only [show (2 : Int) + 1 = 3 from rfl]
  apply propext
  constructor
  · intro q
    exact ⟨by show h (t + 1) a % 256 = h (t + 1) b % 256; omega, by show h (t + 1) (a + 1) % 256 = h (t + 1) (b + 1) % 256; omega, by show h (t + 1) (a + 2) % 256 = h (t + 1) (b + 2) % 256; omega, by show h (t + 1) (a + 3) % 256 = h (t + 1) (b + 3) % 256; omega⟩
  · rintro ⟨q0, q1, q2, q3⟩
    have q0 : h (t + 1) a % 256 = h (t + 1) b % 256 := q0
    have q1 : h (t + 1) (a + 1) % 256 = h (t + 1) (b + 1) % 256 := q1
    have q2 : h (t + 1) (a + 2) % 256 = h (t + 1) (b + 2) % 256 := q2
    have q3 : h (t + 1) (a + 3) % 256 = h (t + 1) (b + 3) % 256 := q3
    rw [q0, q1, q2, q3]
theorem aln_s {g : Int → Int} {a b e : Int} : ∀ (d d' : Nat) (z : Int), e - b - z ≤ d → e - b - z ≤ d' → aln g a b e d z = aln g a b e d' z := by
  intro d
  induction d with
  | zero =>
    intro d' z h1 h2
    cases d' with
    | zero => rfl
    | succ d' => unfold aln; rw [if_neg (by omega)]
  | succ d ih =>
    intro d' z h1 h2
    cases d' with
    | zero => unfold aln; rw [if_neg (by omega)]
    | succ d' =>
      unfold aln
      by_cases g1 : b + z < e
      · rw [if_pos g1, if_pos g1, ih d' (z + 1) (by omega) (by omega)]
      · rw [if_neg g1, if_neg g1]
