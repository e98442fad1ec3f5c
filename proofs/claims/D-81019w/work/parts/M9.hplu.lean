set_option maxRecDepth 100000
theorem hpl_n {t z : Int → Int} {c : Int} : ∀ k : Nat, (∀ i : Int, 0 ≤ i → i < k → t i ≠ 1751474532) → hpl t z c k = -1 := by
  intro k
  induction k with
  | zero => intro _; rfl
  | succ k ih =>
    intro q
    rw [hpl, if_neg (fun e => q k (by omega) (by omega) e.1)]
    exact ih (fun i a b => q i a (by omega))
theorem hpl_u {t z : Int → Int} {c r : Int} (r0 : 0 ≤ r) (e : t r = 1751474532) : ∀ k : Nat, r < k → (∀ i : Int, 0 ≤ i → i < k → i ≠ r → t i ≠ 1751474532) → hpl t z c k = if 12 ≤ z r then plc z c r.toNat + 8 else -1 := by
  intro k
  induction k with
  | zero => intro a _; omega
  | succ k ih =>
    intro a q
    rw [hpl]
    by_cases y : (k : Int) = r
    · rw [y, e]
      by_cases z1 : 12 ≤ z r
      · rw [if_pos ⟨rfl, z1⟩, if_pos z1, show r.toNat = k by omega]
      · rw [if_neg (fun u => z1 u.2), if_neg z1]
        exact hpl_n k (fun i a b => q i a (by omega) (by omega))
    · rw [if_neg (fun u => q k (by omega) (by omega) y u.1)]
      exact ih (by omega) (fun i a b c => q i a (by omega) c)
