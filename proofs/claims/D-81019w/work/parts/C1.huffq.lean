set_option maxRecDepth 100000
/-- the end of the joining: one root -/
theorem hf_end {W q : Int → Int} {n : Int} {z : Nat} (hS : ∀ i j, 0 ≤ i → i ≤ j → j < n → W (q i) ≤ W (q j)) (hW : ∀ i, 0 ≤ i → i < n → 1 ≤ W (q i)) (n2 : 2 ≤ n) (qz : ∀ i, 0 ≤ i → i < n → 0 ≤ q i ∧ q i < z) (qd : ∀ i j, 0 ≤ i → i < j → j < n → q i ≠ q j) (W0 : ∀ s : Int, 0 ≤ s → s < z → 0 ≤ W s) : ∀ wi pa : Int → Int, ∀ l x : Int, hf W q n (n - 1).toNat = (l, x, wi, pa) → l = n ∧ x = 2 * n - 2 ∧ (∀ k, 0 ≤ k → k < 2 * n - 2 → k < pa k ∧ pa k ≤ 2 * n - 2) ∧ (∀ k, 0 ≤ k → k < 2 * n - 2 → n ≤ pa k) ∧ (∀ k, n ≤ k → k ≤ 2 * n - 2 → 1 ≤ wi k ∧ wi k ≤ sgm W z) ∧ (∀ (k : Int) (D : Nat), 0 ≤ k → k < n → (D : Int) ≤ dep pa (2 * n - 2) k → fb D ≤ sgm W z) ∧ (∀ k : Int, 0 ≤ k → k < n → 1 ≤ dep pa (2 * n - 2) k ∧ dep pa (2 * n - 2) k ≤ n - 1) := by
  intro wi pa l x e
  have H : HV W q n (n - 1).toNat l x wi pa := by
    have H := hf_V hS hW (by omega) (n - 1).toNat (by omega)
    rw [e] at H; exact H
  obtain ⟨I, c, xj, su⟩ := H
  rw [show n + ((n - 1).toNat : Int) = 2 * n - 1 by omega] at I su
  have B := I.b
  have xe : x = 2 * n - 2 := by have := xj (by omega); omega
  have le : l = n := by omega
  subst xe; subst le
  have pd : ∀ k, 0 ≤ k → k < 2 * l - 2 → pkd l l (2 * l - 2) k := by intro k k0 k1; unfold pkd; omega
  have pr : ∀ k, 0 ≤ k → k < 2 * l - 2 → k < pa k ∧ pa k ≤ 2 * l - 2 := by
    intro k k0 k1; have := I.pr k (pd k k0 k1); omega
  have rt : wi (2 * l - 2) ≤ sgm W z := by
    have s := smi_s (f := wi) (k := 2 * l - 2) (by omega)
    rw [show 2 * l - 2 + 1 = 2 * l - 1 by omega] at s
    have := sgm_q (z := z) (q := q) l.toNat W (fun i a b => qz i a (by omega)) (fun i j a b c => qd i j a b (by omega)) W0
    have e2 : smi (fun i => W (q i)) l = sgm (fun i => W (q i)) l.toNat := rfl
    omega
  refine ⟨rfl, rfl, pr, ?_, ?_, ?_, ?_⟩
  · intro k k0 k1; exact (I.pr k (pd k k0 k1)).2.1
  · intro k k0 k1
    have p := I.po k (by omega) (by omega)
    rw [nwt_i k0] at p
    have := I.i3 k (2 * l - 2) k0 k1 (by omega)
    omega
  · intro k D k0 k1 c
    have f := fb_d (pa := pa) (wt := nwt W q wi l) (r := 2 * l - 2) (k := k) (D := D) pr (fun k a b => by
      have := I.s1 k (pd k a b); have := I.pr k (pd k a b); rw [nwt_i (k := pa k) (by omega)]; omega) (fun k k2 a b a2 b2 e => by
      have := I.s2 k k2 (pd k a b) (pd k2 a2 b2) e; have := I.pr k (pd k a b); rw [nwt_i (k := pa k) (by omega)]; omega) k0 (by omega) (I.po k k0 (by omega)) c
    rw [nwt_i (by omega)] at f
    omega
  · intro k k0 k1
    have := I.pr k (pd k k0 (by omega))
    have := pr k k0 (by omega)
    have := dep_s pr k0 (by omega)
    have := dep_b pr (2 * l - 2 - pa k).toNat (pa k) (by omega) (by omega) (by omega)
    omega
/-- of four leaves one is 1 deep just if one is 3 deep -/
theorem hf_4 {W q : Int → Int} {pa : Int → Int} (e : (hf W q 4 3).2.2.2 = pa) : (pa 0 = 4 ∧ pa 1 = 4 ∧ pa 2 = 5 ∧ pa 5 = 6) ∧ ((pa 3 = 5 ∧ pa 4 = 6) ∨ (pa 3 = 6 ∧ pa 4 = 5)) := by
  subst e
  have h1 : hf W q 4 1 = (2, 4, (hf W q 4 1).2.2.1, ufn (ufn (fun _ => 0) 0 4) 1 4) := by
    simp [hf, pkn, pkL, pkX, pkl]
  obtain ⟨w1, e1⟩ : ∃ w1, w1 = (hf W q 4 1).2.2.1 := ⟨_, rfl⟩
  rw [← e1] at h1
  have h2 : (∃ w2, hf W q 4 2 = (4, 4, w2, ufn (ufn (ufn (ufn (fun _ => 0) 0 4) 1 4) 2 5) 3 5)) ∨ (∃ w2, hf W q 4 2 = (3, 5, w2, ufn (ufn (ufn (ufn (fun _ => 0) 0 4) 1 4) 2 5) 4 5)) ∨ (∃ w2, hf W q 4 2 = (3, 5, w2, ufn (ufn (ufn (ufn (fun _ => 0) 0 4) 1 4) 4 5) 2 5)) := by
    by_cases c1 : W (q 2) ≤ w1 4
    · by_cases c2 : W (q 3) ≤ w1 4
      · refine Or.inl ⟨(hf W q 4 2).2.2.1, ?_⟩
        rw [hf, h1]; simp [pkn, pkL, pkX, pkl, c1, c2]
      · refine Or.inr (Or.inl ⟨(hf W q 4 2).2.2.1, ?_⟩)
        rw [hf, h1]; simp [pkn, pkL, pkX, pkl, c1, c2]
    · refine Or.inr (Or.inr ⟨(hf W q 4 2).2.2.1, ?_⟩)
      rw [hf, h1]; simp [pkn, pkL, pkX, pkl, c1]
  rcases h2 with ⟨w2, h2⟩ | ⟨w2, h2⟩ | ⟨w2, h2⟩
  · rw [hf, h2]; simp [pkn, pkL, pkX, pkl, ufn]
  · by_cases c : W (q 3) ≤ w2 5
    · rw [hf, h2]; simp [pkn, pkL, pkX, pkl, ufn, c]
    · rw [hf, h2]; simp [pkn, pkL, pkX, pkl, ufn, c]
  · by_cases c : W (q 3) ≤ w2 5
    · rw [hf, h2]; simp [pkn, pkL, pkX, pkl, ufn, c]
    · rw [hf, h2]; simp [pkn, pkL, pkX, pkl, ufn, c]
theorem hf_d4 {pa : Int → Int} (p : (pa 0 = 4 ∧ pa 1 = 4 ∧ pa 2 = 5 ∧ pa 5 = 6) ∧ ((pa 3 = 5 ∧ pa 4 = 6) ∨ (pa 3 = 6 ∧ pa 4 = 5))) : (dep pa 6 0 = 2 ∧ dep pa 6 1 = 2 ∧ dep pa 6 2 = 2 ∧ dep pa 6 3 = 2) ∨ (dep pa 6 0 = 3 ∧ dep pa 6 1 = 3 ∧ dep pa 6 2 = 2 ∧ dep pa 6 3 = 1) := by
  obtain ⟨⟨p0, p1, p2, p5⟩, p34⟩ := p
  rcases p34 with ⟨p3, p4⟩ | ⟨p3, p4⟩
  · left; simp [dep, dpf, p0, p1, p2, p3, p4, p5]
  · right; simp [dep, dpf, p0, p1, p2, p3, p4, p5]
/-- the leaves' queue is sorted up to k -/
def QS (W : Int → Int) (n k : Int) (q : Int → Int) : Prop := (∀ i j, 0 ≤ i → i < j → j < k → W (q i) < W (q j) ∨ (W (q i) = W (q j) ∧ q i < q j)) ∧ ∀ i j, 0 ≤ i → i < j → j < n → k ≤ j → q i < q j
/-- s is put in at place a, those from a to k - 1 go on by one -/
def inq (q : Int → Int) (k a s : Int) : Int → Int := fun i => if i = a then s else if a < i ∧ i ≤ k then q (i - 1) else q i
theorem inq_s {W q : Int → Int} {n k a : Int} (Q : QS W n k q) (a0 : 0 ≤ a ∧ a ≤ k) (kn : k < n) (hi : ∀ i, a ≤ i → i < k → W (q k) < W (q i)) (lo : a = 0 ∨ W (q (a - 1)) ≤ W (q k)) : QS W n (k + 1) (inq q k a (q k)) := by
  have lo' : ∀ i, 0 ≤ i → i < a → W (q i) ≤ W (q k) := by
    intro i i0 ia
    rcases lo with e | e
    · omega
    · by_cases g : i = a - 1
      · rw [g]; exact e
      · have := Q.1 i (a - 1) i0 (by omega) (by omega); omega
  have v : ∀ i, inq q k a (q k) i = if i = a then q k else if a < i ∧ i ≤ k then q (i - 1) else q i := fun _ => rfl
  refine ⟨?_, ?_⟩
  · intro i j i0 ij jk
    rw [v, v]
    by_cases e1 : i = a
    · rw [if_pos e1, if_neg (by omega), if_pos (by omega)]
      exact Or.inl (hi _ (by omega) (by omega))
    · rw [if_neg e1]
      by_cases e2 : j = a
      · rw [if_pos e2, if_neg (by omega)]
        have := lo' i i0 (by omega)
        have := Q.2 i k i0 (by omega) kn (by omega)
        omega
      · rw [if_neg e2]
        by_cases e3 : a < i
        · rw [if_pos (by omega), if_pos (by omega)]; exact Q.1 _ _ (by omega) (by omega) (by omega)
        · rw [if_neg (by omega)]
          by_cases e4 : a < j
          · rw [if_pos (by omega)]; exact Q.1 _ _ i0 (by omega) (by omega)
          · rw [if_neg (by omega)]; exact Q.1 _ _ i0 ij (by omega)
  · intro i j i0 ij jn kj
    rw [v, v, if_neg (by omega : j ≠ a), if_neg (by omega : ¬ (a < j ∧ j ≤ k))]
    by_cases e1 : i = a
    · rw [if_pos e1]; exact Q.2 k j (by omega) (by omega) jn (by omega)
    · rw [if_neg e1]
      by_cases e3 : a < i ∧ i ≤ k
      · rw [if_pos e3]; exact Q.2 _ _ (by omega) (by omega) jn (by omega)
      · rw [if_neg e3]; exact Q.2 _ _ i0 ij jn (by omega)
/-- the same symbols stand in the queue -/
def QP (n : Int) (q q' : Int → Int) : Prop := (∀ i, 0 ≤ i → i < n → ∃ i', (0 ≤ i' ∧ i' < n) ∧ q' i = q i') ∧ ∀ i, 0 ≤ i → i < n → ∃ i', (0 ≤ i' ∧ i' < n) ∧ q' i' = q i
theorem QP_0 {n : Int} {q : Int → Int} : QP n q q := ⟨fun i a b => ⟨i, ⟨a, b⟩, rfl⟩, fun i a b => ⟨i, ⟨a, b⟩, rfl⟩⟩
theorem QP_t {n : Int} {q q1 q2 : Int → Int} (A : QP n q q1) (B : QP n q1 q2) : QP n q q2 := by
  refine ⟨fun i a b => ?_, fun i a b => ?_⟩
  · obtain ⟨j, r, e⟩ := B.1 i a b
    obtain ⟨j', r', e'⟩ := A.1 j r.1 r.2
    exact ⟨j', r', e.trans e'⟩
  · obtain ⟨j, r, e⟩ := A.2 i a b
    obtain ⟨j', r', e'⟩ := B.2 j r.1 r.2
    exact ⟨j', r', e'.trans e⟩
theorem inq_p {q : Int → Int} {n k a : Int} (a0 : 0 ≤ a ∧ a ≤ k) (kn : k < n) : QP n q (inq q k a (q k)) := by
  have v : ∀ i, inq q k a (q k) i = if i = a then q k else if a < i ∧ i ≤ k then q (i - 1) else q i := fun _ => rfl
  refine ⟨fun i i0 i1 => ?_, fun i i0 i1 => ?_⟩
  · rw [v]
    by_cases e1 : i = a
    · rw [if_pos e1]; exact ⟨k, by omega, rfl⟩
    · rw [if_neg e1]
      by_cases e3 : a < i ∧ i ≤ k
      · rw [if_pos e3]; exact ⟨i - 1, by omega, rfl⟩
      · rw [if_neg e3]; exact ⟨i, by omega, rfl⟩
  · by_cases e1 : i = k
    · exact ⟨a, by omega, by rw [v, if_pos rfl, e1]⟩
    · by_cases e2 : a ≤ i ∧ i < k
      · exact ⟨i + 1, by omega, by rw [v, if_neg (by omega), if_pos (by omega), show i + 1 - 1 = i by omega]⟩
      · exact ⟨i, by omega, by rw [v, if_neg (by omega), if_neg (by omega)]⟩
/-- halving lowers the sum, but where all are 1 -/
theorem sgm_h {W : Int → Int} : ∀ N : Nat, (∀ s : Int, 0 ≤ s → s < N → 0 ≤ W s) → sgm (fun s => (W s + 1) / 2) N ≤ sgm W N ∧ (sgm (fun s => (W s + 1) / 2) N < sgm W N ∨ sgm W N ≤ N) := by
  intro N
  induction N with
  | zero => intro _; exact ⟨Int.le_refl _, Or.inr (Int.le_refl _)⟩
  | succ N ih =>
    intro c
    have := ih (fun s a b => c s a (by omega))
    have := c N (by omega) (by omega)
    show sgm (fun s => (W s + 1) / 2) N + (W N + 1) / 2 ≤ sgm W N + W N ∧ (sgm (fun s => (W s + 1) / 2) N + (W N + 1) / 2 < sgm W N + W N ∨ sgm W N + W N ≤ ((N + 1 : Nat) : Int))
    omega
