set_option maxRecDepth 100000
/-- a loop that counts up -/
theorem lp {F : Int → Prop} {b n : Int} (hb : b ≤ n) (s : ∀ z : Int, b ≤ z → z < n → F (z + 1) → F z) (e : F n) : F b := by
  have : ∀ (d : Nat) (z : Int), z + d = n → b ≤ z → F z := by
    intro d
    induction d with
    | zero => intro z q _; rw [show z = n by omega]; exact e
    | succ d ih => intro z q hz; exact s z hz (by omega) (ih (z + 1) (by omega) (by omega))
  exact this (n - b).toNat b (by omega) (Int.le_refl _)
/-- a loop that counts down -/
theorem lpd {F : Int → Prop} {b n : Int} (hb : b ≤ n) (s : ∀ z : Int, b < z → z ≤ n → F (z - 1) → F z) (e : F b) : F n := by
  have : ∀ (d : Nat) (z : Int), z - d = b → z ≤ n → F z := by
    intro d
    induction d with
    | zero => intro z q _; rw [show z = b by omega]; exact e
    | succ d ih => intro z q hz; exact s z (by omega) hz (ih (z - 1) (by omega) (by omega))
  exact this (n - b).toNat n (by omega) (Int.le_refl _)
/-- n slots of a from b on are written -/
def fil (w : Mem) (a b n : Int) (f : Int → Int) : Mem := fun x y => if x = a ∧ b ≤ y ∧ y < b + n then f (y - b) else w x y
theorem fil_ap (w : Mem) (a b n : Int) (f : Int → Int) (x y : Int) : fil w a b n f x y = if x = a ∧ b ≤ y ∧ y < b + n then f (y - b) else w x y := rfl
theorem fil_0 {w : Mem} {a b : Int} {f : Int → Int} : fil w a b 0 f = w := by
  funext x y; rw [fil_ap, if_neg (by omega)]
theorem fil_s {w : Mem} {a b z v : Int} {f : Int → Int} (hz : 0 ≤ z) (hv : v = f z) : st (fil w a b z f) a (b + z) v = fil w a b (z + 1) f := by
  funext x y
  rw [st_ap, fil_ap, fil_ap]
  by_cases q : x = a ∧ y = b + z
  · rw [if_pos q, if_pos (by omega), hv, q.2, show b + z - b = z by omega]
  · rw [if_neg q]
    by_cases r : x = a ∧ b ≤ y ∧ y < b + z
    · rw [if_pos r, if_pos (by omega)]
    · rw [if_neg r, if_neg (by omega)]
theorem fil_na {w : Mem} {a b n x y : Int} {f : Int → Int} (q : x ≠ a) : fil w a b n f x y = w x y := by rw [fil_ap, if_neg (fun z => q z.1)]
theorem fil_out {w : Mem} {a b n x y : Int} {f : Int → Int} (q : y < b ∨ b + n ≤ y) : fil w a b n f x y = w x y := by rw [fil_ap, if_neg (by omega)]
theorem fil_in {w : Mem} {a b n y : Int} {f : Int → Int} (q : b ≤ y) (r : y < b + n) : fil w a b n f a y = f (y - b) := by rw [fil_ap, if_pos ⟨rfl, q, r⟩]
theorem flt_ap (h : Mem) (n k p a j : Int) : flt h n k p a j = if a = n then (if j = 7 then p else if j = 6 then k else 0) else h a j := by
  unfold flt
  rw [st_ap, st_ap, clr_ap]
  by_cases e : a = n
  · rw [if_pos e, if_pos e]
    by_cases e7 : j = 7
    · rw [if_pos ⟨e, e7⟩, if_pos e7]
    · rw [if_neg (fun z => e7 z.2), if_neg e7]
      by_cases e6 : j = 6
      · rw [if_pos ⟨e, e6⟩, if_pos e6]
      · rw [if_neg (fun z => e6 z.2), if_neg e6]
  · rw [if_neg (fun z => e z.1), if_neg (fun z => e z.1), if_neg e, if_neg e]
theorem iteP {c : Prop} [Decidable c] {A B : Prop} (p : c) (a : A) : if c then A else B := by rw [if_pos p]; exact a
theorem iteN {c : Prop} [Decidable c] {A B : Prop} (p : ¬ c) (b : B) : if c then A else B := by rw [if_neg p]; exact b
theorem iteI {c : Prop} [Decidable c] {A B : Prop} (p : c → A) (q : ¬ c → B) : if c then A else B := by
  by_cases z : c
  · exact iteP z (p z)
  · exact iteN z (q z)
