set_option maxRecDepth 100000
theorem dirL_l {fl c : Int} {t s l z : Int → Int} (c0 : 0 ≤ c) : ((dirL fl c t s l z).length : Int) = 12 + 16 * c := by
  unfold dirL
  rw [List.length_append, dirE_l]
  show ((12 + 16 * c.toNat : Nat) : Int) = _
  omega
theorem plc_4 {z : Int → Int} {c : Int} (k : Nat) : plc z c k % 4 = 0 := by
  induction k with
  | zero => rw [plc]; omega
  | succ k ih => rw [plc]; unfold pd4; omega
/-- the bodies lie where plc says -/
theorem bodE_p {L : List Int} {g : Int → Int → Int} {z : Int → Int} {c : Int} (hl : (L.length : Int) = 12 + 16 * c) : ∀ k : Nat, (∀ i : Int, 0 ≤ i → i < k → 0 ≤ z i) → ((bodE L g z k).length : Int) = plc z c k := by
  intro k
  induction k with
  | zero => intro _; rw [bodE, plc]; exact hl
  | succ k ih =>
    intro q
    have a := ih (fun i x y => q i x (by omega))
    have b := q k (by omega) (by omega)
    have m4 := plc_4 (z := z) (c := c) k
    have e : (bodE L g z k ++ slc (g k) 0 (z k).toNat).length = (bodE L g z k).length + (z k).toNat := by rw [List.length_append, slc_l]
    rw [bodE, plc, List.length_append, List.length_replicate, e]
    unfold pdn pd4
    rw [e]
    omega
theorem plc_m {z : Int → Int} {c : Int} : ∀ (d k : Nat), (∀ i : Int, 0 ≤ i → i < k + d → 0 ≤ z i) → plc z c k ≤ plc z c (k + d) := by
  intro d
  induction d with
  | zero => intro k _; exact Int.le_refl _
  | succ d ih =>
    intro k q
    have a := ih k (fun i x y => q i x (by omega))
    have b := q (k + d : Nat) (by omega) (by omega)
    rw [show k + (d + 1) = (k + d) + 1 by omega, plc]
    unfold pd4
    omega
/-- head's adjustment lies inside -/
theorem hpl_r {t z : Int → Int} {c : Int} (c0 : 0 ≤ c) : ∀ k : Nat, (∀ i : Int, 0 ≤ i → i < k → 0 ≤ z i) → hpl t z c k = -1 ∨ (0 ≤ hpl t z c k ∧ hpl t z c k + 4 ≤ plc z c k) := by
  intro k
  induction k with
  | zero => intro _; exact Or.inl rfl
  | succ k ih =>
    intro q
    have a := ih (fun i x y => q i x (by omega))
    have b := q k (by omega) (by omega)
    have p0 := plc_m (z := z) (c := c) k 0 (fun i x y => q i x (by omega))
    rw [Nat.zero_add, plc] at p0
    rw [hpl, plc]
    unfold pd4
    by_cases e : t k = 1751474532 ∧ 12 ≤ z k
    · rw [if_pos e]; right; omega
    · rw [if_neg e]
      rcases a with a | a
      · exact Or.inl a
      · right; omega
/-- the bytes of a saved font -/
def outL (LL : List Int) (hp : Int) (i : Int) : Int := if hp < 0 then LL.getD i.toNat 0 else adj LL hp (wr (-1313820742 - wr (sm (fun i => LL.getD i.toNat 0) hp LL.length))) i
def s60 (boC : Mem) (LL : List Int) (hp : Int) : Prop := ((LL.length : Int) ≤ 16000 ∧ boC 19 2 = 0 ∧ boC 19 1 = LL.length ∧ ∀ i : Int, 0 ≤ i → i < (LL.length : Int) → boC 20 i = outL LL hp i) ∨ (16000 < (LL.length : Int) ∧ boC 19 2 = 1)
