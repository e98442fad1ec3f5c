set_option maxRecDepth 100000
/-- how many symbols have a weight -/
def cnt (W : Int → Int) : Nat → Int
  | 0 => 0
  | k + 1 => cnt W k + if 0 < W k then 1 else 0
theorem cnt_r (W : Int → Int) : ∀ k : Nat, 0 ≤ cnt W k ∧ cnt W k ≤ k := by
  intro k
  induction k with
  | zero => exact ⟨Int.le_refl _, Int.le_refl _⟩
  | succ k ih =>
    show 0 ≤ cnt W k + (if 0 < W k then 1 else 0) ∧ cnt W k + (if 0 < W k then 1 else 0) ≤ ((k + 1 : Nat) : Int)
    by_cases c : 0 < W k
    · rw [if_pos c]; omega
    · rw [if_neg c]; omega
theorem cnt_c {W V : Int → Int} : ∀ k : Nat, (∀ s : Int, 0 ≤ s → s < k → (0 < W s ↔ 0 < V s)) → cnt W k = cnt V k := by
  intro k
  induction k with
  | zero => intro _; rfl
  | succ k ih =>
    intro c
    show cnt W k + (if 0 < W k then 1 else 0) = cnt V k + (if 0 < V k then 1 else 0)
    rw [ih (fun s a b => c s a (by omega))]
    have := c k (by omega) (by omega)
    by_cases d : 0 < W k
    · rw [if_pos d, if_pos (this.mp d)]
    · rw [if_neg d, if_neg (fun x => d (this.mpr x))]
def cti (W : Int → Int) (s : Int) : Int := cnt W s.toNat
theorem cti_s {W : Int → Int} {s : Int} (s0 : 0 ≤ s) : cti W (s + 1) = cti W s + if 0 < W s then 1 else 0 := by
  unfold cti
  rw [show (s + 1).toNat = s.toNat + 1 by omega]
  show cnt W s.toNat + (if 0 < W (s.toNat : Int) then 1 else 0) = _
  rw [show ((s.toNat : Nat) : Int) = s by omega]
theorem cti_r {W : Int → Int} {s : Int} (s0 : 0 ≤ s) : 0 ≤ cti W s ∧ cti W s ≤ s := by
  have := cnt_r W s.toNat; unfold cti; omega
theorem cti_c {W V : Int → Int} {z : Int} (c : ∀ s : Int, 0 ≤ s → s < z → (0 < W s ↔ 0 < V s)) : cti W z = cti V z := cnt_c _ (fun s a b => c s a (by omega))
/-- the used symbols below s, collected in order -/
def QC (W : Int → Int) (s : Int) (q : Int → Int) : Prop := (∀ i, 0 ≤ i → i < cti W s → (0 ≤ q i ∧ q i < s) ∧ 1 ≤ W (q i)) ∧ (∀ i j, 0 ≤ i → i < j → j < cti W s → q i < q j) ∧ ∀ t, 0 ≤ t → t < s → W t ≠ 0 → ∃ i, (0 ≤ i ∧ i < cti W s) ∧ q i = t
theorem QC_0 {W q : Int → Int} : QC W 0 q := ⟨fun i a b => by have : cti W 0 = 0 := rfl; omega, fun i j a b c => by have : cti W 0 = 0 := rfl; omega, fun t a b => by omega⟩
theorem QC_y {W q : Int → Int} {s : Int} (s0 : 0 ≤ s) (C : QC W s q) (w : 0 < W s) : QC W (s + 1) (ufn q (cti W s) s) := by
  have e := cti_s (W := W) s0
  rw [if_pos w] at e
  have r := cti_r (W := W) s0
  refine ⟨?_, ?_, ?_⟩
  · intro i i0 i1
    by_cases g : i = cti W s
    · rw [g, ufn_e]; omega
    · rw [ufn_n g]; have := C.1 i i0 (by omega); omega
  · intro i j i0 ij j1
    rw [ufn_n (by omega : i ≠ cti W s)]
    by_cases g : j = cti W s
    · rw [g, ufn_e]; have := C.1 i i0 (by omega); omega
    · rw [ufn_n g]; exact C.2.1 i j i0 ij (by omega)
  · intro t t0 t1 wt
    by_cases g : t = s
    · exact ⟨cti W s, by omega, by rw [ufn_e, g]⟩
    · obtain ⟨i, r, e2⟩ := C.2.2 t t0 (by omega) wt
      exact ⟨i, by omega, by rw [ufn_n (by omega)]; exact e2⟩
theorem QC_n {W q : Int → Int} {s : Int} (s0 : 0 ≤ s) (C : QC W s q) (w : W s = 0) : QC W (s + 1) q := by
  have e := cti_s (W := W) s0
  rw [if_neg (by omega)] at e
  refine ⟨?_, ?_, ?_⟩
  · intro i i0 i1; have := C.1 i i0 (by omega); omega
  · intro i j i0 ij j1; exact C.2.1 i j i0 ij (by omega)
  · intro t t0 t1 wt
    by_cases g : t = s
    · rw [g] at wt; exact absurd w wt
    · obtain ⟨i, r, e2⟩ := C.2.2 t t0 (by omega) wt
      exact ⟨i, by omega, e2⟩
theorem QC_c {W q q' : Int → Int} {s : Int} (C : QC W s q) (e : ∀ i, 0 ≤ i → i < cti W s → q' i = q i) : QC W s q' := by
  refine ⟨fun i a b => by rw [e i a b]; exact C.1 i a b, fun i j a b c => by rw [e i a (by omega), e j (by omega) c]; exact C.2.1 i j a b c, fun t a b c => ?_⟩
  obtain ⟨i, r, e2⟩ := C.2.2 t a b c
  exact ⟨i, r, by rw [e i r.1 r.2]; exact e2⟩
theorem QC_S {W q : Int → Int} {s : Int} (C : QC W s q) : QS W (cti W s) 1 q := ⟨fun i j a b c => by omega, fun i j a b c _ => C.2.1 i j a b c⟩
/-- collected, then sorted -/
theorem QB_m {W q q' : Int → Int} {z : Int} (z0 : 0 ≤ z) (C : QC W z q) (S : QS W (cti W z) (cti W z) q') (P : QP (cti W z) q q') (W0 : ∀ s, 0 ≤ s → s < z → 0 ≤ W s) : QB W q' (cti W z) z := by
  refine ⟨cti_r z0, fun i a b => ?_, S.1, fun t a b c => ?_, W0⟩
  · obtain ⟨i', r, e⟩ := P.1 i a b
    rw [e]; exact C.1 i' r.1 r.2
  · obtain ⟨i, r, e⟩ := C.2.2 t a b c
    obtain ⟨i', r', e'⟩ := P.2 i r.1 r.2
    exact ⟨i', r', e'.trans e⟩
/-- a queue of at most one needs no sorting -/
theorem QB_1 {W q : Int → Int} {z : Int} (z0 : 0 ≤ z) (C : QC W z q) (c : cti W z < 2) (W0 : ∀ s, 0 ≤ s → s < z → 0 ≤ W s) : QB W q (cti W z) z :=
  QB_m z0 C ⟨fun i j _ _ _ => by omega, fun i j _ _ _ _ => by omega⟩ QP_0 W0
/-- the depth of leaf i -/
def lf (W q : Int → Int) (n i : Int) : Int := if n < 2 then 0 else dep (hf W q n (n - 1).toNat).2.2.2 (2 * n - 2) i
theorem lf_r {W q : Int → Int} {n i : Int} {z : Nat} (B : QB W q n z) (i0 : 0 ≤ i) (i1 : i < n) : 0 ≤ lf W q n i ∧ lf W q n i ≤ n - 1 ∧ (2 ≤ n → 1 ≤ lf W q n i) ∧ ∀ D : Nat, 0 < D → (D : Int) ≤ lf W q n i → fb D ≤ sgm W z := by
  unfold lf
  by_cases c : n < 2
  · rw [if_pos c]; exact ⟨by omega, by omega, by omega, fun D d0 d1 => by omega⟩
  · rw [if_neg c]
    obtain ⟨l, x, wi, pa, e⟩ : ∃ l x wi pa, hf W q n (n - 1).toNat = (l, x, wi, pa) := ⟨_, _, _, _, rfl⟩
    have E := hf_end (z := z) (QB_S B) (fun i a b => (B.2.1 i a b).2) (by omega) (fun i a b => (B.2.1 i a b).1) (QB_d B) B.2.2.2.2 wi pa l x e
    rw [e]
    obtain ⟨_, _, _, _, _, E6, E7⟩ := E
    have := E7 i i0 i1
    exact ⟨by show 0 ≤ dep pa _ _; omega, by show dep pa _ _ ≤ _; omega, fun _ => by show 1 ≤ dep pa _ _; omega, fun D _ d => E6 i D i0 i1 d⟩
/-- four leaves -/
theorem lf_4 {W q : Int → Int} : (lf W q 4 0 = 2 ∧ lf W q 4 1 = 2 ∧ lf W q 4 2 = 2 ∧ lf W q 4 3 = 2) ∨ (lf W q 4 0 = 3 ∧ lf W q 4 1 = 3 ∧ lf W q 4 2 = 2 ∧ lf W q 4 3 = 1) := by
  have k := hf_d4 (hf_4 (W := W) (q := q) rfl)
  unfold lf
  rw [if_neg (by omega), if_neg (by omega), if_neg (by omega), if_neg (by omega)]
  exact k
