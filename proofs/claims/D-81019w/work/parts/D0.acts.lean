set_option maxRecDepth 100000
/-- what findCopies and findActs change -/
def fcC (a j : Int) : Prop := (a = 313 ∧ j = 15) ∨ a = 351 ∨ a = 352 ∨ a = 353
def fcM (a j : Int) : Prop := (a = 17 ∧ (j = 33 ∨ j = 49)) ∨ a = 39 ∨ a = 40 ∨ a = 41
/-- the acts so far, from b0 to p, with an open insert of i bytes -/
def AR (b0 p i : Int) (h w : Mem) : Prop := h 313 15 = w 17 33 ∧ 0 ≤ w 17 33 ∧ 0 ≤ i ∧ b0 + smi (fun k => w 39 k + w 40 k) (w 17 33) + i = p ∧ 4 * w 17 33 ≤ p - b0 - i ∧ ∀ k : Int, 0 ≤ k → k < w 17 33 → (h 351 k = w 39 k ∧ h 352 k = w 40 k ∧ h 353 k = w 41 k) ∧ 0 ≤ w 39 k ∧ 4 ≤ w 40 k ∧ 1 ≤ w 41 k ∧ w 41 k ≤ 16000
/-- all acts from b0 to e -/
def AF (b0 e : Int) (h w : Mem) : Prop := h 313 15 = w 17 33 ∧ (0 ≤ w 17 33 ∧ w 17 33 ≤ 1025) ∧ b0 + smi (fun k => w 39 k + w 40 k) (w 17 33) = e ∧ ∀ k : Int, 0 ≤ k → k < w 17 33 → (h 351 k = w 39 k ∧ h 352 k = w 40 k ∧ h 353 k = w 41 k) ∧ 0 ≤ w 39 k ∧ (w 40 k = 0 ∨ (4 ≤ w 40 k ∧ 1 ≤ w 41 k ∧ w 41 k ≤ 16000))
theorem AR_l {b0 p i : Int} {h w : Mem} (A : AR b0 p i h w) : AR b0 (p + 1) (i + 1) h w := by
  obtain ⟨a1, a2, a3, a4, a5, a6⟩ := A
  exact ⟨a1, a2, by omega, by omega, by omega, a6⟩
theorem AR_e {b0 p i x : Int} {h w : Mem} (A : AR b0 p i h w) : AR b0 p i h (st w 17 49 x) := by
  obtain ⟨a1, a2, a3, a4, a5, a6⟩ := A
  have e : st w 17 49 x 17 33 = w 17 33 := st_nj (by omega)
  have f : ∀ a k : Int, a ≠ 17 → st w 17 49 x a k = w a k := fun a k c => st_na c
  refine ⟨by rw [e]; exact a1, by rw [e]; exact a2, a3, ?_, by rw [e]; exact a5, ?_⟩
  · rw [e, smi_c (g := fun k => w 39 k + w 40 k) (fun k _ _ => by rw [f 39 k (by omega), f 40 k (by omega)])]; exact a4
  · intro k k0 k1
    rw [e] at k1
    rw [f 39 k (by omega), f 40 k (by omega), f 41 k (by omega)]
    exact a6 k k0 k1
theorem AR_a {b0 p i l d c : Int} {h w h1 w1 : Mem} (A : AR b0 p i h w) (l0 : 4 ≤ l) (d0 : 1 ≤ d ∧ d ≤ 16000) (c0 : w 17 33 = c) (e1 : h1 313 15 = c + 1) (e2 : w1 17 33 = c + 1) (f1 : ∀ k, h1 351 k = if k = c then i else h 351 k) (f2 : ∀ k, h1 352 k = if k = c then l else h 352 k) (f3 : ∀ k, h1 353 k = if k = c then d else h 353 k) (g1 : ∀ k, w1 39 k = if k = c then i else w 39 k) (g2 : ∀ k, w1 40 k = if k = c then l else w 40 k) (g3 : ∀ k, w1 41 k = if k = c then d else w 41 k) : AR b0 (p + l) 0 h1 w1 := by
  obtain ⟨a1, a2, a3, a4, a5, a6⟩ := A
  rw [c0] at a1 a2 a4 a5 a6
  refine ⟨by omega, by omega, by omega, ?_, by omega, ?_⟩
  · rw [e2, smi_s a2, g1, g2, if_pos rfl, if_pos rfl, smi_c (g := fun k => w 39 k + w 40 k) (fun k _ k1 => by rw [g1, g2, if_neg (by omega), if_neg (by omega)])]; omega
  · intro k k0 k1
    rw [f1, f2, f3, g1, g2, g3]
    by_cases e : k = c
    · rw [if_pos e, if_pos e, if_pos e, if_pos e, if_pos e, if_pos e]; exact ⟨⟨rfl, rfl, rfl⟩, by omega⟩
    · rw [if_neg e, if_neg e, if_neg e, if_neg e, if_neg e, if_neg e]; exact a6 k k0 (by omega)
theorem AR_f {b0 p : Int} {h w : Mem} (A : AR b0 p 0 h w) (pb : p - b0 ≤ 4096) : AF b0 p h w := by
  obtain ⟨a1, a2, a3, a4, a5, a6⟩ := A
  exact ⟨a1, by omega, by omega, fun k k0 k1 => ⟨(a6 k k0 k1).1, (a6 k k0 k1).2.1, Or.inr (a6 k k0 k1).2.2⟩⟩
theorem AR_fa {b0 p i c : Int} {h w h1 w1 : Mem} (A : AR b0 p i h w) (pb : p - b0 ≤ 4096) (c0 : w 17 33 = c) (e1 : h1 313 15 = c + 1) (e2 : w1 17 33 = c + 1) (f1 : ∀ k, h1 351 k = if k = c then i else h 351 k) (f2 : ∀ k, h1 352 k = if k = c then 0 else h 352 k) (f3 : ∀ k, h1 353 k = if k = c then 0 else h 353 k) (g1 : ∀ k, w1 39 k = if k = c then i else w 39 k) (g2 : ∀ k, w1 40 k = if k = c then 0 else w 40 k) (g3 : ∀ k, w1 41 k = if k = c then 0 else w 41 k) : AF b0 p h1 w1 := by
  obtain ⟨a1, a2, a3, a4, a5, a6⟩ := A
  rw [c0] at a1 a2 a4 a5 a6
  refine ⟨by omega, by omega, ?_, ?_⟩
  · rw [e2, smi_s a2, g1, g2, if_pos rfl, if_pos rfl, smi_c (g := fun k => w 39 k + w 40 k) (fun k _ k1 => by rw [g1, g2, if_neg (by omega), if_neg (by omega)])]; omega
  · intro k k0 k1
    rw [f1, f2, f3, g1, g2, g3]
    by_cases e : k = c
    · rw [if_pos e, if_pos e, if_pos e, if_pos e, if_pos e, if_pos e]; exact ⟨⟨rfl, rfl, rfl⟩, by omega, Or.inl rfl⟩
    · rw [if_neg e, if_neg e, if_neg e, if_neg e, if_neg e, if_neg e]
      have := a6 k k0 (by omega)
      exact ⟨this.1, this.2.1, Or.inr this.2.2⟩
