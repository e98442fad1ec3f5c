set_option maxRecDepth 100000
/-- rows of length symbols: how many, the symbols, what is told behind them (-1: nothing) -/
abbrev TK := Int × (Int → Int) × (Int → Int)
def tpu (v x : Int) (T : TK) : TK := (T.1 + 1, ufn T.2.1 T.1 v, ufn T.2.2 T.1 x)
/-- a run of r without words, in digits -/
def tzd : Nat → Int → TK → TK
  | 0, _, T => T
  | d + 1, r, T => if r ≤ 10 then tpu 17 ((r - 3) % 8) T else tpu 17 ((r - 3) % 8) (tzd d ((r - 3) / 8 + 2) T)
/-- how many digits -/
def tzn : Nat → Int → Int
  | 0, _ => 0
  | d + 1, r => if r ≤ 10 then 1 else tzn d ((r - 3) / 8 + 2) + 1
def tzr (r : Int) (T : TK) : TK := if r ≤ 0 then T else if r = 1 then tpu 0 (-1) T else if r = 2 then tpu 0 (-1) (tpu 0 (-1) T) else tzd 5 r T
/-- d symbols from s on: the rows, and the run that is open -/
def tkf (L : Int → Int) : Nat → Int → TK → Int → TK × Int
  | 0, _, T, r => (T, r)
  | d + 1, s, T, r => if L s ≤ 0 then tkf L d (s + 1) T (r + 1) else tkf L d (s + 1) (tpu (L s) (-1) (tzr r T)) 0
/-- how often v stands among the first N -/
def cno (f : Int → Int) (v : Int) : Nat → Int
  | 0 => 0
  | k + 1 => cno f v k + if f k = v then 1 else 0
theorem cno_c {f g : Int → Int} {v : Int} : ∀ N : Nat, (∀ k : Int, 0 ≤ k → k < N → f k = g k) → cno f v N = cno g v N := by
  intro N
  induction N with
  | zero => intro _; rfl
  | succ N ih =>
    intro c
    show cno f v N + (if f N = v then 1 else 0) = cno g v N + (if g N = v then 1 else 0)
    rw [ih (fun k a b => c k a (by omega)), c N (by omega) (by omega)]
theorem cno_r {f : Int → Int} {v : Int} : ∀ N : Nat, 0 ≤ cno f v N ∧ cno f v N ≤ N := by
  intro N
  induction N with
  | zero => exact ⟨Int.le_refl _, Int.le_refl _⟩
  | succ N ih =>
    show 0 ≤ cno f v N + (if f N = v then 1 else 0) ∧ cno f v N + (if f N = v then 1 else 0) ≤ ((N + 1 : Nat) : Int)
    by_cases c : f N = v
    · rw [if_pos c]; omega
    · rw [if_neg c]; omega
/-- a row of tokens is good: digits behind 17 only -/
def TKG (T : TK) : Prop := 0 ≤ T.1 ∧ ∀ k : Int, 0 ≤ k → k < T.1 → ((0 ≤ T.2.1 k ∧ T.2.1 k ≤ 15) ∧ T.2.2 k = -1) ∨ (T.2.1 k = 17 ∧ 0 ≤ T.2.2 k ∧ T.2.2 k ≤ 7)
theorem TKG_p {T : TK} {v x : Int} (G : TKG T) (c : ((0 ≤ v ∧ v ≤ 15) ∧ x = -1) ∨ (v = 17 ∧ 0 ≤ x ∧ x ≤ 7)) : TKG (tpu v x T) := by
  refine ⟨by show 0 ≤ T.1 + 1; have := G.1; omega, fun k k0 k1 => ?_⟩
  show ((0 ≤ ufn T.2.1 T.1 v k ∧ ufn T.2.1 T.1 v k ≤ 15) ∧ ufn T.2.2 T.1 x k = -1) ∨ (ufn T.2.1 T.1 v k = 17 ∧ 0 ≤ ufn T.2.2 T.1 x k ∧ ufn T.2.2 T.1 x k ≤ 7)
  by_cases e : k = T.1
  · rw [e, ufn_e, ufn_e]; exact c
  · rw [ufn_n e, ufn_n e]
    have k1' : k < T.1 + 1 := k1
    exact G.2 k k0 (by omega)
theorem TKG_d {T : TK} (G : TKG T) : ∀ (d : Nat) (r : Int), 3 ≤ r → TKG (tzd d r T) := by
  intro d
  induction d with
  | zero => intro r _; exact G
  | succ d ih =>
    intro r r0
    unfold tzd
    by_cases c : r ≤ 10
    · rw [if_pos c]; exact TKG_p G (Or.inr (by omega))
    · rw [if_neg c]; exact TKG_p (ih _ (by omega)) (Or.inr (by omega))
theorem TKG_r {T : TK} (G : TKG T) (r : Int) : TKG (tzr r T) := by
  unfold tzr
  by_cases a : r ≤ 0
  · rw [if_pos a]; exact G
  · rw [if_neg a]
    by_cases b : r = 1
    · rw [if_pos b]; exact TKG_p G (Or.inl (by omega))
    · rw [if_neg b]
      by_cases c : r = 2
      · rw [if_pos c]; exact TKG_p (TKG_p G (Or.inl (by omega))) (Or.inl (by omega))
      · rw [if_neg c]; exact TKG_d G 5 r (by omega)
theorem tzd_n {T : TK} : ∀ (d : Nat) (r : Int), (tzd d r T).1 = T.1 + tzn d r := by
  intro d
  induction d with
  | zero => intro r; show T.1 = T.1 + 0; omega
  | succ d ih =>
    intro r
    unfold tzd tzn
    by_cases c : r ≤ 10
    · rw [if_pos c, if_pos c]; rfl
    · rw [if_neg c, if_neg c]
      show (tzd d ((r - 3) / 8 + 2) T).1 + 1 = _
      rw [ih]; omega
theorem tzn_b : ∀ (d : Nat) (r : Int), 3 ≤ r → 0 ≤ tzn d r ∧ tzn d r ≤ d ∧ tzn d r ≤ r - 2 := by
  intro d
  induction d with
  | zero => intro r r0; show 0 ≤ (0 : Int) ∧ (0 : Int) ≤ ((0 : Nat) : Int) ∧ (0 : Int) ≤ r - 2; omega
  | succ d ih =>
    intro r r0
    unfold tzn
    by_cases c : r ≤ 10
    · rw [if_pos c]; omega
    · rw [if_neg c]; have := ih ((r - 3) / 8 + 2) (by omega); omega
theorem tzr_n {T : TK} {r : Int} (r0 : 0 ≤ r) : T.1 ≤ (tzr r T).1 ∧ (tzr r T).1 ≤ T.1 + r := by
  unfold tzr
  by_cases a : r ≤ 0
  · rw [if_pos a]; omega
  · rw [if_neg a]
    by_cases b : r = 1
    · rw [if_pos b]; show T.1 ≤ T.1 + 1 ∧ T.1 + 1 ≤ T.1 + r; omega
    · rw [if_neg b]
      by_cases c : r = 2
      · rw [if_pos c]; show T.1 ≤ T.1 + 1 + 1 ∧ T.1 + 1 + 1 ≤ T.1 + r; omega
      · rw [if_neg c, tzd_n]; have := tzn_b 5 r (by omega); omega
theorem tkf_g {L : Int → Int} : ∀ (d : Nat) (s : Int) (T : TK) (r : Int), TKG T → 0 ≤ r → T.1 + r ≤ s → (∀ t : Int, s ≤ t → t < s + d → L t ≤ 15) → TKG (tkf L d s T r).1 ∧ 0 ≤ (tkf L d s T r).2 ∧ (tkf L d s T r).1.1 + (tkf L d s T r).2 ≤ s + d := by
  intro d
  induction d with
  | zero => intro s T r G r0 c _; exact ⟨G, r0, by show T.1 + r ≤ s + 0; omega⟩
  | succ d ih =>
    intro s T r G r0 c l
    have l0 := l s (by omega) (by omega)
    unfold tkf
    by_cases q : L s ≤ 0
    · rw [if_pos q]
      have := ih (s + 1) T (r + 1) G (by omega) (by omega) (fun t a b => l t (by omega) (by omega))
      exact ⟨this.1, this.2.1, by omega⟩
    · rw [if_neg q]
      have tn := tzr_n (T := T) r0
      have := ih (s + 1) (tpu (L s) (-1) (tzr r T)) 0 (TKG_p (TKG_r G r) (Or.inl (by omega))) (by omega) (by show (tzr r T).1 + 1 + 0 ≤ s + 1; omega) (fun t a b => l t (by omega) (by omega))
      exact ⟨this.1, this.2.1, by omega⟩
theorem tkf_z {L : Int → Int} {d : Nat} {T : TK} : ∀ (r : Nat) (s a : Int), (∀ i : Int, 0 ≤ i → i < r → L (s + i) ≤ 0) → tkf L (d + r) s T a = tkf L d (s + r) T (a + r) := by
  intro r
  induction r with
  | zero => intro s a _; show tkf L d s T a = tkf L d (s + 0) T (a + 0); rw [Int.add_zero, Int.add_zero]
  | succ r ih =>
    intro s a c
    have c0 := c 0 (by omega) (by omega)
    rw [Int.add_zero] at c0
    show (if L s ≤ 0 then tkf L (d + r) (s + 1) T (a + 1) else _) = _
    rw [if_pos c0, ih (s + 1) (a + 1) (fun i i0 i1 => by have := c (i + 1) (by omega) (by omega); rw [show s + 1 + i = s + (i + 1) by omega]; exact this)]
    rw [show s + 1 + (r : Int) = s + ((r + 1 : Nat) : Int) by omega, show a + 1 + (r : Int) = a + ((r + 1 : Nat) : Int) by omega]
/-- three ways of the house: a symbol with a word, a long run, a zero alone -/
theorem tkf_w {L : Int → Int} {d : Nat} {s : Int} {T : TK} (q : 0 < L s) : tkf L (d + 1) s T 0 = tkf L d (s + 1) (tpu (L s) (-1) T) 0 := by
  show (if L s ≤ 0 then _ else tkf L d (s + 1) (tpu (L s) (-1) (tzr 0 T)) 0) = _
  rw [if_neg (by omega)]; rfl
theorem tkf_l {L : Int → Int} {d r : Nat} {s : Int} {T : TK} (c : ∀ i : Int, 0 ≤ i → i < r → L (s + i) ≤ 0) (r3 : 3 ≤ r) (q : 0 < L (s + r)) : tkf L (d + 1 + r) s T 0 = tkf L (d + 1) (s + r) (tzd 5 r T) 0 := by
  rw [tkf_z r s 0 c, tkf_w q]
  show (if L (s + r) ≤ 0 then _ else tkf L d (s + r + 1) (tpu (L (s + r)) (-1) (tzr (0 + r) T)) 0) = _
  rw [if_neg (by omega)]
  unfold tzr
  rw [if_neg (by omega), if_neg (by omega), if_neg (by omega), Int.zero_add]
theorem tkf_0 {L : Int → Int} {d r : Nat} {s : Int} {T : TK} (c : ∀ i : Int, 0 ≤ i → i < r → L (s + i) ≤ 0) (r1 : 1 ≤ r) (r3 : r < 3) (q : 0 < L (s + r)) : tkf L (d + 1 + r) s T 0 = tkf L (d + r) (s + 1) (tpu 0 (-1) T) 0 := by
  rw [tkf_z r s 0 c]
  have e := tkf_z (L := L) (d := d + 1) (T := tpu 0 (-1) T) (r - 1) (s + 1) 0 (fun i i0 i1 => by have := c (i + 1) (by omega) (by omega); rw [show s + 1 + i = s + (i + 1) by omega]; exact this)
  rw [show d + 1 + (r - 1) = d + r by omega, show s + 1 + ((r - 1 : Nat) : Int) = s + r by omega] at e
  rw [e]
  show (if L (s + r) ≤ 0 then _ else tkf L d (s + r + 1) (tpu (L (s + r)) (-1) (tzr (0 + r) T)) 0) = (if L (s + r) ≤ 0 then _ else tkf L d (s + r + 1) (tpu (L (s + r)) (-1) (tzr (0 + ((r - 1 : Nat) : Int)) (tpu 0 (-1) T))) 0)
  rw [if_neg (by omega), if_neg (by omega)]
  congr 2
  rcases (by omega : r = 1 ∨ r = 2) with e | e <;> subst e <;> rfl
/-- the house's row and counts -/
def HTK (T : TK) (sq wt : Int → Int) : Prop := (∀ k : Int, 0 ≤ k → k < T.1 → sq k = if T.2.2 k = -1 then T.2.1 k else 17 + 32 * T.2.2 k) ∧ ∀ v : Int, 0 ≤ v → v < 18 → wt v = cno T.2.1 v T.1.toNat
theorem cno_p {T : TK} {v x u : Int} (t0 : 0 ≤ T.1) : cno (tpu v x T).2.1 u (tpu v x T).1.toNat = cno T.2.1 u T.1.toNat + if v = u then 1 else 0 := by
  show cno (ufn T.2.1 T.1 v) u (T.1 + 1).toNat = _
  rw [show (T.1 + 1).toNat = T.1.toNat + 1 by omega]
  show cno (ufn T.2.1 T.1 v) u T.1.toNat + (if ufn T.2.1 T.1 v (T.1.toNat : Int) = u then 1 else 0) = _
  rw [show ((T.1.toNat : Nat) : Int) = T.1 by omega, ufn_e, cno_c (g := T.2.1) _ (fun k a b => ufn_n (by omega))]
theorem HTK_p {T : TK} {sq wt : Int → Int} {v x : Int} (H : HTK T sq wt) (t0 : 0 ≤ T.1) (c : (v ≠ 17 ∧ x = -1) ∨ (v = 17 ∧ x ≠ -1)) : HTK (tpu v x T) (ufn sq T.1 (if x = -1 then v else 17 + 32 * x)) (ufn wt v (wt v + 1)) := by
  refine ⟨fun k k0 k1 => ?_, fun u u0 u1 => ?_⟩
  · have k1' : k < T.1 + 1 := k1
    show _ = (if ufn T.2.2 T.1 x k = -1 then ufn T.2.1 T.1 v k else 17 + 32 * ufn T.2.2 T.1 x k)
    by_cases e : k = T.1
    · rw [e, ufn_e, ufn_e, ufn_e]
    · rw [ufn_n e, ufn_n e, ufn_n e]; exact H.1 k k0 (by omega)
  · rw [cno_p t0]
    by_cases e : u = v
    · rw [e, ufn_e, if_pos rfl, H.2 v (by omega) (by omega)]
    · rw [ufn_n e, if_neg (fun z => e z.symm), H.2 u u0 u1]; omega
