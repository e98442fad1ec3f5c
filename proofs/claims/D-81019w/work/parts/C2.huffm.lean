set_option maxRecDepth 100000
/-- q is the sorted queue of the n symbols below z that have a weight -/
def QB (W q : Int → Int) (n z : Int) : Prop := (0 ≤ n ∧ n ≤ z) ∧ (∀ i, 0 ≤ i → i < n → (0 ≤ q i ∧ q i < z) ∧ 1 ≤ W (q i)) ∧ (∀ i j, 0 ≤ i → i < j → j < n → W (q i) < W (q j) ∨ (W (q i) = W (q j) ∧ q i < q j)) ∧ (∀ s, 0 ≤ s → s < z → W s ≠ 0 → ∃ i, (0 ≤ i ∧ i < n) ∧ q i = s) ∧ ∀ s, 0 ≤ s → s < z → 0 ≤ W s
theorem QB_S {W q : Int → Int} {n z : Int} (B : QB W q n z) : ∀ i j, 0 ≤ i → i ≤ j → j < n → W (q i) ≤ W (q j) := by
  intro i j i0 ij jn
  by_cases e : i = j
  · rw [e]; exact Int.le_refl _
  · have := B.2.2.1 i j i0 (by omega) jn; omega
theorem QB_d {W q : Int → Int} {n z : Int} (B : QB W q n z) : ∀ i j, 0 ≤ i → i < j → j < n → q i ≠ q j := by
  intro i j i0 ij jn e
  have := B.2.2.1 i j i0 ij jn
  rw [e] at this; omega
theorem QB_e {W q : Int → Int} {n z : Int} (B : QB W q n z) {i j : Int} (i0 : 0 ≤ i) (i1 : i < n) (j0 : 0 ≤ j) (j1 : j < n) (e : q i = q j) : i = j := by
  by_cases a : i < j
  · exact absurd e (QB_d B i j i0 a j1)
  · by_cases b : j < i
    · exact absurd e.symm (QB_d B j i j0 b i1)
    · omega
/-- the model's number of a node -/
def nph (q : Int → Int) (n z k : Int) : Int := if k < n then q k else z + (k - n)
theorem nph_l {q : Int → Int} {n z k : Int} (c : k < n) : nph q n z k = q k := if_pos c
theorem nph_i {q : Int → Int} {n z k : Int} (c : n ≤ k) : nph q n z k = z + (k - n) := if_neg (by omega)
theorem nph_e {W q : Int → Int} {n z : Int} (B : QB W q n z) {i j : Int} (i0 : 0 ≤ i) (j0 : 0 ≤ j) (e : nph q n z i = nph q n z j) : i = j := by
  by_cases a : i < n
  · have r := B.2.1 i i0 a
    rw [nph_l a] at e
    by_cases b : j < n
    · rw [nph_l b] at e; exact QB_e B i0 a j0 b e
    · rw [nph_i (by omega)] at e; omega
  · rw [nph_i (by omega)] at e
    by_cases b : j < n
    · have r := B.2.1 j j0 b
      rw [nph_l b] at e; omega
    · rw [nph_i (by omega)] at e; omega
/-- the model's joined, weight, above tell the same joining -/
def MJ (W q : Int → Int) (n z m l x : Int) (wi pa J wt ab : Int → Int) : Prop := (∀ k, 0 ≤ k → k < m → wt (nph q n z k) = nwt W q wi n k) ∧ (∀ k, pkd n l x k → J (nph q n z k) = 1 ∧ ab (nph q n z k) = nph q n z (pa k)) ∧ (∀ k, unp n m l x k → J (nph q n z k) = 0 ∧ ab (nph q n z k) = -1) ∧ (∀ s, 0 ≤ s → s < z → W s = 0 → J s = 1 ∧ ab s = -1)
/-- all numbers below z + (m - n) -/
theorem nph_c {W q : Int → Int} {n z m : Int} (B : QB W q n z) (nm : n ≤ m) {i : Int} (i0 : 0 ≤ i) (i1 : i < z + (m - n)) : (i < z ∧ W i = 0) ∨ ∃ k, (0 ≤ k ∧ k < m) ∧ nph q n z k = i := by
  by_cases a : i < z
  · by_cases b : W i = 0
    · exact Or.inl ⟨a, b⟩
    · obtain ⟨k, r, e⟩ := B.2.2.2.1 i i0 a b
      exact Or.inr ⟨k, by omega, by rw [nph_l r.2]; exact e⟩
  · exact Or.inr ⟨n + (i - z), by have := B.1; omega, by rw [nph_i (by omega)]; omega⟩
theorem lea_p {W q wi J wt : Int → Int} {n z m l x : Int} {N : Nat} (B : QB W q n z) (nm : n ≤ m) (eN : (N : Int) = z + (m - n)) (i3 : ∀ k k', n ≤ k → k ≤ k' → k' < m → wi k ≤ wi k') (b : 0 ≤ l ∧ l ≤ n ∧ n ≤ x ∧ x ≤ m) (ne : l < n ∨ x < m) (M1 : ∀ k, 0 ≤ k → k < m → wt (nph q n z k) = nwt W q wi n k) (M2 : ∀ k, 0 ≤ k → k < m → J (nph q n z k) = 0 → unp n m l x k) (M3 : ∀ k, unp n m l x k → J (nph q n z k) = 0) (M4 : ∀ s, 0 ≤ s → s < z → W s = 0 → J s = 1) : lea J wt N = nph q n z (pkn W q wi n m l x) ∧ 0 ≤ nph q n z (pkn W q wi n m l x) ∧ nph q n z (pkn W q wi n m l x) < N := by
  have hL := B.2.2.1
  obtain ⟨a, l1, x1, ea, -, -, ua, -⟩ := pick_all (QB_S B) i3 b ne
  have lx := pick_lex (z := z) hL (fun i i0 i1 => (B.2.1 i i0 i1).1.2) i3 b ne
  rw [ea] at lx ⊢
  have am : 0 ≤ a ∧ a < m := by unfold unp at ua; omega
  have ar : 0 ≤ nph q n z a ∧ nph q n z a < N := by
    by_cases c : a < n
    · have := B.2.1 a am.1 c; rw [nph_l c]; omega
    · rw [nph_i (by omega)]; have := B.1; omega
  refine ⟨lea_e ar.1 ar.2 (M3 a ua) ?_, ar⟩
  intro i i0 i1 ji
  rcases nph_c B nm i0 (by omega) with c | ⟨k, kr, e⟩
  · have := M4 i i0 c.1 c.2; omega
  · rw [← e] at ji
    have uk := M2 k kr.1 kr.2 ji
    have := lx k uk
    rw [← e, M1 a am.1 am.2, M1 k kr.1 kr.2]
    exact this
/-- one join in the model -/
theorem mj_s {W q wi pa J wt ab : Int → Int} {n z l x : Int} {j N : Nat} (B : QB W q n z) (eN : (N : Int) = z + j) (jn : (j : Int) + 1 < n) (H : HV W q n j l x wi pa) (M : MJ W q n z (n + j) l x wi pa J wt ab) {a l1 x1 b l2 x2 : Int} (ea : pkn W q wi n (n + j) l x = a) (e1 : pkL W q wi n (n + j) l x = l1) (e2 : pkX W q wi n (n + j) l x = x1) (eb : pkn W q wi n (n + j) l1 x1 = b) (e3 : pkL W q wi n (n + j) l1 x1 = l2) (e4 : pkX W q wi n (n + j) l1 x1 = x2) : lea J wt N = nph q n z a ∧ lea (ufn J (nph q n z a) 1) wt N = nph q n z b ∧ (0 ≤ nph q n z a ∧ nph q n z a < N) ∧ (0 ≤ nph q n z b ∧ nph q n z b < N) ∧ nph q n z a ≠ nph q n z b ∧ MJ W q n z (n + j + 1) l2 x2 (ufn wi (n + j) (nwt W q wi n a + nwt W q wi n b)) (ufn (ufn pa a (n + j)) b (n + j)) (ufn (ufn (ufn J (nph q n z a) 1) (nph q n z b) 1) N 0) (ufn wt N (wt (nph q n z a) + wt (nph q n z b))) (ufn (ufn (ufn ab (nph q n z a) N) (nph q n z b) N) N (-1)) := by
  obtain ⟨H2, ua, ub, ab', u1, B1, ne1, _⟩ := hv_s (QB_S B) (by omega) jn H ea e1 e2 eb e3 e4
  obtain ⟨I, c, xj, su⟩ := H
  have Bb := I.b
  obtain ⟨M1, M2, M3, M4⟩ := M
  have am : 0 ≤ a ∧ a < n + j := by unfold unp at ua; omega
  have bm : 0 ≤ b ∧ b < n + j := by unfold unp at ub; omega
  have un : ∀ k, 0 ≤ k → k < n + j → J (nph q n z k) = 0 → unp n (n + j) l x k := by
    intro k k0 k1 jk
    by_cases p : pkd n l x k
    · have := (M2 k p).1; omega
    · unfold pkd at p; unfold unp; omega
  have L1 := lea_p (N := N) B (by omega) (by omega) I.i3 Bb (by omega) M1 un (fun k u => (M3 k u).1) (fun s a b c => (M4 s a b c).1)
  rw [ea] at L1
  have nab : nph q n z b ≠ nph q n z a := fun e => ab' (nph_e B bm.1 am.1 e).symm
  have L2 := lea_p (J := ufn J (nph q n z a) 1) (N := N) B (by omega) (by omega) I.i3 B1 ne1 M1 (fun k k0 k1 jk => by
      by_cases e : k = a
      · rw [e, ufn_e] at jk; omega
      · rw [ufn_n (fun f => e (nph_e B k0 am.1 f))] at jk
        exact (u1 k).mpr ⟨un k k0 k1 jk, e⟩) (fun k u => by
      have u' := (u1 k).mp u
      have k0 : 0 ≤ k := by unfold unp at u; omega
      rw [ufn_n (fun f => u'.2 (nph_e B k0 am.1 f))]
      exact (M3 k u'.1).1) (fun s s0 s1 w0 => by
      by_cases e : s = nph q n z a
      · rw [e, ufn_e]
      · rw [ufn_n e]; exact (M4 s s0 s1 w0).1)
  rw [eb] at L2
  have lt : ∀ k, 0 ≤ k → k < n + j → nph q n z k ≠ N := by
    intro k k0 k1
    by_cases g : k < n
    · have := B.2.1 k k0 g; rw [nph_l g]; omega
    · rw [nph_i (by omega)]; omega
  have eM : nph q n z (n + j) = N := by rw [nph_i (by omega)]; omega
  refine ⟨L1.1, L2.1, L1.2, L2.2, nab.symm, ?_, ?_, ?_, ?_⟩
  · intro k k0 k1
    by_cases g : k = n + j
    · rw [g, eM, ufn_e, nwt_i (by omega), ufn_e, M1 a am.1 am.2, M1 b bm.1 bm.2]
    · rw [ufn_n (lt k k0 (by omega)), nwt_u (by omega)]; exact M1 k k0 (by omega)
  · intro k p
    obtain ⟨I2, c2, xj2, su2⟩ := H2
    have kb : 0 ≤ k ∧ k < n + j := by have := I2.b; unfold pkd at p; have := xj2 (by omega); omega
    have kN := lt k kb.1 kb.2
    rw [ufn_n kN, ufn_n kN]
    by_cases gb : k = b
    · rw [gb, ufn_e, ufn_e, ufn_e, eM]; exact ⟨rfl, rfl⟩
    · rw [ufn_n (fun f => gb (nph_e B kb.1 bm.1 f)), ufn_n (fun f => gb (nph_e B kb.1 bm.1 f)), ufn_n gb]
      by_cases ga : k = a
      · rw [ga, ufn_e, ufn_e, ufn_e, eM]; exact ⟨rfl, rfl⟩
      · rw [ufn_n (fun f => ga (nph_e B kb.1 am.1 f)), ufn_n (fun f => ga (nph_e B kb.1 am.1 f)), ufn_n ga]
        refine M2 k ?_
        by_cases pk : pkd n l x k
        · exact pk
        · exfalso
          have uk : unp n (n + j) l x k := by unfold pkd at pk; unfold unp; omega
          have u2 : unp n (n + j) l1 x1 k := (u1 k).mpr ⟨uk, ga⟩
          obtain ⟨b', l2', x2', eb', e3', e4', ub', mb, B2, c2', u2', p2'⟩ := pick_all (QB_S B) I.i3 B1 ne1
          rw [eb] at eb'; rw [e3] at e3'; rw [e4] at e4'
          have := (u2' k).mpr ⟨u2, by omega⟩
          rw [← e3', ← e4'] at this
          unfold unp at this; unfold pkd at p; omega
  · intro k u
    by_cases g : k = n + j
    · rw [g, eM, ufn_e, ufn_e]; exact ⟨rfl, rfl⟩
    · obtain ⟨b', l2', x2', eb', e3', e4', ub', mb, B2, c2', u2', p2'⟩ := pick_all (QB_S B) I.i3 B1 ne1
      rw [eb] at eb'; rw [e3] at e3'; rw [e4] at e4'
      have u2 : unp n (n + j) l2 x2 k := by unfold unp at u ⊢; omega
      rw [e3', e4'] at u2
      have v := (u2' k).mp u2
      have v1 := (u1 k).mp v.1
      have kb : 0 ≤ k ∧ k < n + j := by have := v1.1; unfold unp at this; omega
      have kN := lt k kb.1 kb.2
      have gb : k ≠ b := by omega
      rw [ufn_n kN, ufn_n kN, ufn_n (fun f => gb (nph_e B kb.1 bm.1 f)), ufn_n (fun f => gb (nph_e B kb.1 bm.1 f)), ufn_n (fun f => v1.2 (nph_e B kb.1 am.1 f)), ufn_n (fun f => v1.2 (nph_e B kb.1 am.1 f))]
      exact M3 k v1.1
  · intro s s0 s1 w0
    have ne : ∀ k, 0 ≤ k → k < n + j → s ≠ nph q n z k := by
      intro k k0 k1
      by_cases g : k < n
      · have := B.2.1 k k0 g; rw [nph_l g]; intro f; rw [f] at w0; omega
      · rw [nph_i (by omega)]; omega
    have sN : s ≠ (N : Int) := by omega
    rw [ufn_n sN, ufn_n sN, ufn_n (ne b bm.1 bm.2), ufn_n (ne b bm.1 bm.2), ufn_n (ne a am.1 am.2), ufn_n (ne a am.1 am.2)]
    exact M4 s s0 s1 w0
