set_option maxRecDepth 100000
/-- a function changed at one place -/
def ufn (f : Int → Int) (i v : Int) : Int → Int := fun k => if k = i then v else f k
theorem ufn_e {f : Int → Int} {i v : Int} : ufn f i v i = v := if_pos rfl
theorem ufn_n {f : Int → Int} {i v k : Int} (q : k ≠ i) : ufn f i v k = f k := if_neg q
/-- the weight of a node: a leaf's by the queue q, an inner one's by wi -/
def nwt (W q wi : Int → Int) (n k : Int) : Int := if k < n then W (q k) else wi k
theorem nwt_l {W q wi : Int → Int} {n k : Int} (c : k < n) : nwt W q wi n k = W (q k) := if_pos c
theorem nwt_i {W q wi : Int → Int} {n k : Int} (c : n ≤ k) : nwt W q wi n k = wi k := if_neg (by omega)
/-- the next leaf is picked (and not the next inner node) -/
abbrev pkl (W q wi : Int → Int) (n m l x : Int) : Prop := l < n ∧ (x = m ∨ W (q l) ≤ wi x)
def pkd (n l x k : Int) : Prop := (0 ≤ k ∧ k < l) ∨ (n ≤ k ∧ k < x)
def unp (n m l x k : Int) : Prop := (l ≤ k ∧ k < n) ∨ (x ≤ k ∧ k < m)
/-- what is known of the nodes below m, of which l leaves and the inner ones below x are picked -/
abbrev HI (W q : Int → Int) (n m l x : Int) (wi pa : Int → Int) : Prop := (0 ≤ l ∧ l ≤ n ∧ n ≤ x ∧ x ≤ m) ∧ (∀ k, 0 ≤ k → k < m → 1 ≤ nwt W q wi n k) ∧ (∀ a b, pkd n l x a → unp n m l x b → nwt W q wi n a ≤ nwt W q wi n b) ∧ (∀ k b, n ≤ k → k < m → unp n m l x b → wi k ≤ 2 * nwt W q wi n b) ∧ (∀ k k', n ≤ k → k ≤ k' → k' < m → wi k ≤ wi k') ∧ (∀ k, pkd n l x k → k < pa k ∧ n ≤ pa k ∧ pa k < m) ∧ (∀ k, pkd n l x k → nwt W q wi n k + 1 ≤ wi (pa k)) ∧ (∀ k k2, pkd n l x k → pkd n l x k2 → pa k2 = k → nwt W q wi n k + nwt W q wi n k2 ≤ wi (pa k))
theorem HI.b {W q : Int → Int} {n m l x : Int} {wi pa : Int → Int} (H : HI W q n m l x wi pa) : 0 ≤ l ∧ l ≤ n ∧ n ≤ x ∧ x ≤ m := H.1
theorem HI.po {W q : Int → Int} {n m l x : Int} {wi pa : Int → Int} (H : HI W q n m l x wi pa) : ∀ k, 0 ≤ k → k < m → 1 ≤ nwt W q wi n k := H.2.1
theorem HI.i1 {W q : Int → Int} {n m l x : Int} {wi pa : Int → Int} (H : HI W q n m l x wi pa) : ∀ a b, pkd n l x a → unp n m l x b → nwt W q wi n a ≤ nwt W q wi n b := H.2.2.1
theorem HI.i2 {W q : Int → Int} {n m l x : Int} {wi pa : Int → Int} (H : HI W q n m l x wi pa) : ∀ k b, n ≤ k → k < m → unp n m l x b → wi k ≤ 2 * nwt W q wi n b := H.2.2.2.1
theorem HI.i3 {W q : Int → Int} {n m l x : Int} {wi pa : Int → Int} (H : HI W q n m l x wi pa) : ∀ k k', n ≤ k → k ≤ k' → k' < m → wi k ≤ wi k' := H.2.2.2.2.1
theorem HI.pr {W q : Int → Int} {n m l x : Int} {wi pa : Int → Int} (H : HI W q n m l x wi pa) : ∀ k, pkd n l x k → k < pa k ∧ n ≤ pa k ∧ pa k < m := H.2.2.2.2.2.1
theorem HI.s1 {W q : Int → Int} {n m l x : Int} {wi pa : Int → Int} (H : HI W q n m l x wi pa) : ∀ k, pkd n l x k → nwt W q wi n k + 1 ≤ wi (pa k) := H.2.2.2.2.2.2.1
theorem HI.s2 {W q : Int → Int} {n m l x : Int} {wi pa : Int → Int} (H : HI W q n m l x wi pa) : ∀ k k2, pkd n l x k → pkd n l x k2 → pa k2 = k → nwt W q wi n k + nwt W q wi n k2 ≤ wi (pa k) := H.2.2.2.2.2.2.2
/-- a pick takes the least -/
theorem pick_leaf {W q wi : Int → Int} {n m l x : Int} (hS : ∀ i j, 0 ≤ i → i ≤ j → j < n → W (q i) ≤ W (q j)) (i3 : ∀ k k', n ≤ k → k ≤ k' → k' < m → wi k ≤ wi k') (b : 0 ≤ l ∧ l ≤ n ∧ n ≤ x ∧ x ≤ m) (c : pkl W q wi n m l x) : ∀ b, unp n m l x b → nwt W q wi n l ≤ nwt W q wi n b := by
  intro k u
  rw [nwt_l c.1]
  rcases u with u | u
  · rw [nwt_l u.2]; exact hS _ _ b.1 u.1 u.2
  · rw [nwt_i (by omega)]
    rcases c.2 with e | e
    · omega
    · have := i3 x k b.2.2.1 u.1 u.2; omega
theorem pick_inner {W q wi : Int → Int} {n m l x : Int} (hS : ∀ i j, 0 ≤ i → i ≤ j → j < n → W (q i) ≤ W (q j)) (i3 : ∀ k k', n ≤ k → k ≤ k' → k' < m → wi k ≤ wi k') (b : 0 ≤ l ∧ l ≤ n ∧ n ≤ x ∧ x ≤ m) (ne : l < n ∨ x < m) (c : ¬ pkl W q wi n m l x) : x < m ∧ ∀ b, unp n m l x b → nwt W q wi n x ≤ nwt W q wi n b := by
  have xm : x < m := by
    rcases ne with e | e
    · by_cases d : x = m
      · exact absurd ⟨e, Or.inl d⟩ c
      · omega
    · exact e
  refine ⟨xm, fun k u => ?_⟩
  rw [nwt_i b.2.2.1]
  rcases u with u | u
  · rw [nwt_l u.2]
    have h1 := hS l k b.1 u.1 u.2
    by_cases d : W (q l) ≤ wi x
    · exact absurd ⟨by omega, Or.inr d⟩ c
    · omega
  · rw [nwt_i (by omega)]; exact i3 x k b.2.2.1 u.1 u.2
/-- the node that is picked, and what is picked then -/
def pkn (W q wi : Int → Int) (n m l x : Int) : Int := if pkl W q wi n m l x then l else x
def pkL (W q wi : Int → Int) (n m l x : Int) : Int := if pkl W q wi n m l x then l + 1 else l
def pkX (W q wi : Int → Int) (n m l x : Int) : Int := if pkl W q wi n m l x then x else x + 1
theorem pick_all {W q wi : Int → Int} {n m l x : Int} (hS : ∀ i j, 0 ≤ i → i ≤ j → j < n → W (q i) ≤ W (q j)) (i3 : ∀ k k', n ≤ k → k ≤ k' → k' < m → wi k ≤ wi k') (b : 0 ≤ l ∧ l ≤ n ∧ n ≤ x ∧ x ≤ m) (ne : l < n ∨ x < m) : ∃ a l1 x1, pkn W q wi n m l x = a ∧ pkL W q wi n m l x = l1 ∧ pkX W q wi n m l x = x1 ∧ unp n m l x a ∧ (∀ b, unp n m l x b → nwt W q wi n a ≤ nwt W q wi n b) ∧ (0 ≤ l1 ∧ l1 ≤ n ∧ n ≤ x1 ∧ x1 ≤ m) ∧ l1 + x1 = l + x + 1 ∧ (∀ k, unp n m l1 x1 k ↔ unp n m l x k ∧ k ≠ a) ∧ (∀ k, pkd n l1 x1 k ↔ pkd n l x k ∨ k = a) := by
  by_cases c : pkl W q wi n m l x
  · have p := pick_leaf hS i3 b c
    refine ⟨l, l + 1, x, if_pos c, if_pos c, if_pos c, Or.inl ⟨by omega, c.1⟩, p, ?_, by omega, ?_, ?_⟩
    · have := c.1; omega
    · intro k; unfold unp; have := c.1; omega
    · intro k; unfold pkd; have := c.1; omega
  · obtain ⟨xm, p⟩ := pick_inner hS i3 b ne c
    refine ⟨x, l, x + 1, if_neg c, if_neg c, if_neg c, Or.inr ⟨by omega, xm⟩, p, by omega, by omega, ?_, ?_⟩
    · intro k; unfold unp; omega
    · intro k; unfold pkd; omega
/-- weights of nodes below m do not see what is written at m -/
theorem nwt_u {W q wi : Int → Int} {n m v k : Int} (c : k < m) : nwt W q (ufn wi m v) n k = nwt W q wi n k := by
  unfold nwt
  by_cases d : k < n
  · rw [if_pos d, if_pos d]
  · rw [if_neg d, if_neg d, ufn_n (by omega)]
/-- two are joined -/
theorem HI_s {W q wi pa : Int → Int} {n m l x a b l2 x2 : Int} (H : HI W q n m l x wi pa) (nm : n ≤ m) (ua : unp n m l x a) (ub : unp n m l x b) (ab : a ≠ b) (ma : ∀ k, unp n m l x k → nwt W q wi n a ≤ nwt W q wi n k) (mb : ∀ k, unp n m l x k → k ≠ a → nwt W q wi n b ≤ nwt W q wi n k) (B : 0 ≤ l2 ∧ l2 ≤ n ∧ n ≤ x2 ∧ x2 ≤ m) (hu : ∀ k, unp n m l2 x2 k ↔ unp n m l x k ∧ k ≠ a ∧ k ≠ b) (hp : ∀ k, pkd n l2 x2 k ↔ pkd n l x k ∨ k = a ∨ k = b) : HI W q n (m + 1) l2 x2 (ufn wi m (nwt W q wi n a + nwt W q wi n b)) (ufn (ufn pa a m) b m) := by
  have am : 0 ≤ a ∧ a < m := by have := H.b; unfold unp at ua; omega
  have bm : 0 ≤ b ∧ b < m := by have := H.b; unfold unp at ub; omega
  have wab : nwt W q wi n a ≤ nwt W q wi n b := ma b ub
  have wa1 := H.po a am.1 am.2
  have hu' : ∀ k, unp n (m + 1) l2 x2 k → k = m ∨ (k < m ∧ unp n m l x k ∧ k ≠ a ∧ k ≠ b) := by
    intro k u
    by_cases e : k = m
    · exact Or.inl e
    · have u2 : unp n m l2 x2 k := by unfold unp at u ⊢; omega
      have := (hu k).mp u2
      refine Or.inr ⟨?_, this⟩
      unfold unp at u2; omega
  have pm : ∀ k, pkd n l2 x2 k → 0 ≤ k ∧ k < m := by intro k u; unfold pkd at u; omega
  have wm : nwt W q (ufn wi m (nwt W q wi n a + nwt W q wi n b)) n m = nwt W q wi n a + nwt W q wi n b := by rw [nwt_i nm, ufn_e]
  have pab : ∀ k, pkd n l x k → k ≠ a ∧ k ≠ b := by
    intro k u; unfold pkd at u; unfold unp at ua ub; have := H.b; omega
  refine ⟨by omega, ?_, ?_, ?_, ?_, ?_, ?_, ?_⟩
  · intro k k0 k1
    by_cases e : k = m
    · rw [e, wm]; omega
    · rw [nwt_u (by omega)]; exact H.po k k0 (by omega)
  · intro c d pc ud
    rw [nwt_u (pm c pc).2]
    have le : nwt W q wi n c ≤ nwt W q wi n b := by
      rcases (hp c).mp pc with p | p | p
      · exact H.i1 c b p ub
      · rw [p]; exact wab
      · rw [p]; exact Int.le_refl _
    rcases hu' d ud with e | ⟨dm, ud', da, db⟩
    · rw [e, wm]; omega
    · rw [nwt_u dm]
      have := mb d ud' da
      omega
  · intro k d k0 k1 ud
    rcases hu' d ud with e | ⟨dm, ud', da, db⟩
    · rw [e, wm]
      by_cases f : k = m
      · rw [f, ufn_e]; omega
      · rw [ufn_n f]
        have := H.i2 k a k0 (by omega) ua
        omega
    · rw [nwt_u dm]
      by_cases f : k = m
      · rw [f, ufn_e]
        have := ma d ud'; have := mb d ud' da; omega
      · rw [ufn_n f]; exact H.i2 k d k0 (by omega) ud'
  · intro k k' k0 kk k1
    by_cases f : k' = m
    · rw [f, ufn_e]
      by_cases g : k = m
      · rw [g, ufn_e]; omega
      · rw [ufn_n g]
        have := H.i2 k a k0 (by omega) ua
        omega
    · rw [ufn_n f, ufn_n (by omega)]; exact H.i3 k k' k0 kk (by omega)
  · intro k p
    by_cases e : k = b
    · rw [e, ufn_e]; omega
    · rw [ufn_n e]
      by_cases f : k = a
      · rw [f, ufn_e]; omega
      · rw [ufn_n f]
        rcases (hp k).mp p with p | p | p
        · have := H.pr k p; omega
        · exact absurd p f
        · exact absurd p e
  · intro k p
    rw [nwt_u (pm k p).2]
    by_cases e : k = b
    · rw [e, ufn_e, ufn_e]; omega
    · rw [ufn_n e]
      by_cases f : k = a
      · rw [f, ufn_e, ufn_e]; omega
      · rw [ufn_n f]
        rcases (hp k).mp p with p | p | p
        · have := H.pr k p
          rw [ufn_n (by omega)]; exact H.s1 k p
        · exact absurd p f
        · exact absurd p e
  · intro k k2 p p2 e2
    rw [nwt_u (pm k p).2, nwt_u (pm k2 p2).2]
    have k2o : pkd n l x k2 := by
      rcases (hp k2).mp p2 with r | r | r
      · exact r
      · rw [r] at e2
        rw [ufn_n ab, ufn_e] at e2
        have := pm k p; omega
      · rw [r] at e2
        rw [ufn_e] at e2
        have := pm k p; omega
    have q2 : pa k2 = k := by
      have := pab k2 k2o
      rw [ufn_n this.2, ufn_n this.1] at e2; exact e2
    by_cases e : k = b
    · rw [e, ufn_e, ufn_e]
      have := H.i1 k2 a k2o ua; omega
    · rw [ufn_n e]
      by_cases f : k = a
      · rw [f, ufn_e, ufn_e]
        have := H.i1 k2 b k2o ub; omega
      · rw [ufn_n f]
        rcases (hp k).mp p with p | p | p
        · have := H.pr k p
          rw [ufn_n (by omega)]; exact H.s2 k k2 p k2o q2
        · exact absurd p f
        · exact absurd p e
/-- sums -/
def sgm (f : Int → Int) : Nat → Int
  | 0 => 0
  | k + 1 => sgm f k + f k
def smi (f : Int → Int) (k : Int) : Int := sgm f k.toNat
theorem smi_s {f : Int → Int} {k : Int} (k0 : 0 ≤ k) : smi f (k + 1) = smi f k + f k := by
  unfold smi
  rw [show (k + 1).toNat = k.toNat + 1 by omega]
  show sgm f k.toNat + f (k.toNat : Int) = _
  rw [show ((k.toNat : Nat) : Int) = k by omega]
theorem sgm_c {f g : Int → Int} : ∀ N : Nat, (∀ k : Int, 0 ≤ k → k < N → f k = g k) → sgm f N = sgm g N := by
  intro N
  induction N with
  | zero => intro _; rfl
  | succ N ih => intro c; show sgm f N + f N = sgm g N + g N; rw [ih (fun k a b => c k a (by omega)), c N (by omega) (by omega)]
theorem smi_c {f g : Int → Int} {N : Int} (c : ∀ k : Int, 0 ≤ k → k < N → f k = g k) : smi f N = smi g N := sgm_c _ (fun k a b => c k a (by omega))
theorem sgm_le {f g : Int → Int} : ∀ N : Nat, (∀ k : Int, 0 ≤ k → k < N → f k ≤ g k) → sgm f N ≤ sgm g N := by
  intro N
  induction N with
  | zero => intro _; exact Int.le_refl _
  | succ N ih => intro c; show sgm f N + f N ≤ sgm g N + g N; have := ih (fun k a b => c k a (by omega)); have := c N (by omega) (by omega); omega
theorem sgm_mo {f : Int → Int} : ∀ (d N : Nat), (∀ k : Int, N ≤ k → k < (N + d : Nat) → 0 ≤ f k) → sgm f N ≤ sgm f (N + d) := by
  intro d
  induction d with
  | zero => intro N _; exact Int.le_refl _
  | succ d ih => intro N c; show sgm f N ≤ sgm f (N + d) + f ((N + d : Nat) : Int); have := ih N (fun k a b => c k a (by omega)); have := c ((N + d : Nat) : Int) (by omega) (by omega); omega
theorem smi_mo {f : Int → Int} {a b : Int} (a0 : 0 ≤ a) (ab : a ≤ b) (c : ∀ k : Int, a ≤ k → k < b → 0 ≤ f k) : smi f a ≤ smi f b := by
  unfold smi
  have := sgm_mo (f := f) (b.toNat - a.toNat) a.toNat (fun k k0 k1 => c k (by omega) (by omega))
  rw [show a.toNat + (b.toNat - a.toNat) = b.toNat by omega] at this
  exact this
theorem sgm_u {f : Int → Int} {x v : Int} (x0 : 0 ≤ x) : ∀ N : Nat, x < N → sgm (ufn f x v) N = sgm f N - f x + v := by
  intro N
  induction N with
  | zero => intro c; omega
  | succ N ih =>
    intro c
    show sgm (ufn f x v) N + ufn f x v N = sgm f N + f N - f x + v
    by_cases e : x = N
    · rw [e, ufn_e, sgm_c (g := f) N (fun k _ k1 => ufn_n (by omega))]; omega
    · rw [ih (by omega), ufn_n (by omega)]; omega
/-- a sum over different places is at most that over all -/
theorem sgm_q {z : Nat} {q : Int → Int} : ∀ (n : Nat) (W : Int → Int), (∀ i : Int, 0 ≤ i → i < n → 0 ≤ q i ∧ q i < z) → (∀ i j : Int, 0 ≤ i → i < j → j < n → q i ≠ q j) → (∀ s : Int, 0 ≤ s → s < z → 0 ≤ W s) → sgm (fun i => W (q i)) n ≤ sgm W z := by
  intro n
  induction n with
  | zero => intro W _ _ c; have := sgm_mo (f := W) z 0 (fun k a b => c k (by omega) (by omega)); rw [Nat.zero_add] at this; exact this
  | succ n ih =>
    intro W r d c
    have rn := r n (by omega) (by omega)
    have k := ih (ufn W (q n) 0) (fun i a b => r i a (by omega)) (fun i j a b e => d i j a b (by omega)) (fun s a b => by
      by_cases e : s = q n
      · rw [e, ufn_e]; omega
      · rw [ufn_n e]; exact c s a b)
    rw [sgm_u rn.1 z rn.2] at k
    have e : sgm (fun i => ufn W (q n) 0 (q i)) n = sgm (fun i => W (q i)) n := sgm_c n (fun i a b => ufn_n (d i n a b (by omega)))
    rw [e] at k
    show sgm (fun i => W (q i)) n + W (q n) ≤ sgm W z
    omega
/-- how the nodes are joined: leaves picked, next inner one, weights, the nodes above -/
def hf (W q : Int → Int) (n : Int) : Nat → Int × Int × (Int → Int) × (Int → Int)
  | 0 => (0, n, fun _ => 0, fun _ => 0)
  | j + 1 => (pkL W q (hf W q n j).2.2.1 n (n + j) (pkL W q (hf W q n j).2.2.1 n (n + j) (hf W q n j).1 (hf W q n j).2.1) (pkX W q (hf W q n j).2.2.1 n (n + j) (hf W q n j).1 (hf W q n j).2.1),
     pkX W q (hf W q n j).2.2.1 n (n + j) (pkL W q (hf W q n j).2.2.1 n (n + j) (hf W q n j).1 (hf W q n j).2.1) (pkX W q (hf W q n j).2.2.1 n (n + j) (hf W q n j).1 (hf W q n j).2.1),
     ufn (hf W q n j).2.2.1 (n + j) (nwt W q (hf W q n j).2.2.1 n (pkn W q (hf W q n j).2.2.1 n (n + j) (hf W q n j).1 (hf W q n j).2.1) + nwt W q (hf W q n j).2.2.1 n (pkn W q (hf W q n j).2.2.1 n (n + j) (pkL W q (hf W q n j).2.2.1 n (n + j) (hf W q n j).1 (hf W q n j).2.1) (pkX W q (hf W q n j).2.2.1 n (n + j) (hf W q n j).1 (hf W q n j).2.1))),
     ufn (ufn (hf W q n j).2.2.2 (pkn W q (hf W q n j).2.2.1 n (n + j) (hf W q n j).1 (hf W q n j).2.1) (n + j)) (pkn W q (hf W q n j).2.2.1 n (n + j) (pkL W q (hf W q n j).2.2.1 n (n + j) (hf W q n j).1 (hf W q n j).2.1) (pkX W q (hf W q n j).2.2.1 n (n + j) (hf W q n j).1 (hf W q n j).2.1)) (n + j))
/-- one join: the two nodes a and b -/
theorem hf_s {W q wi pa : Int → Int} {n l x : Int} {j : Nat} (e : hf W q n j = (l, x, wi, pa)) : ∃ a b l1 x1 l2 x2, pkn W q wi n (n + j) l x = a ∧ pkL W q wi n (n + j) l x = l1 ∧ pkX W q wi n (n + j) l x = x1 ∧ pkn W q wi n (n + j) l1 x1 = b ∧ pkL W q wi n (n + j) l1 x1 = l2 ∧ pkX W q wi n (n + j) l1 x1 = x2 ∧ hf W q n (j + 1) = (l2, x2, ufn wi (n + j) (nwt W q wi n a + nwt W q wi n b), ufn (ufn pa a (n + j)) b (n + j)) := by
  refine ⟨_, _, _, _, _, _, rfl, rfl, rfl, rfl, rfl, rfl, ?_⟩
  unfold hf
  rw [e]
/-- the invariant -/
def HV (W q : Int → Int) (n : Int) (j : Nat) (l x : Int) (wi pa : Int → Int) : Prop := HI W q n (n + j) l x wi pa ∧ l + x = n + 2 * j ∧ (1 ≤ j → x ≤ n + j - 1) ∧ smi wi (n + j) = smi wi x + smi (fun i => W (q i)) l
theorem hv_s {W q wi pa : Int → Int} {n l x : Int} {j : Nat} (hS : ∀ i j, 0 ≤ i → i ≤ j → j < n → W (q i) ≤ W (q j)) (n0 : 0 ≤ n) (jn : (j : Int) + 1 < n) (H : HV W q n j l x wi pa) {a l1 x1 b l2 x2 : Int} (ea : pkn W q wi n (n + j) l x = a) (e1 : pkL W q wi n (n + j) l x = l1) (e2 : pkX W q wi n (n + j) l x = x1) (eb : pkn W q wi n (n + j) l1 x1 = b) (e3 : pkL W q wi n (n + j) l1 x1 = l2) (e4 : pkX W q wi n (n + j) l1 x1 = x2) : HV W q n (j + 1) l2 x2 (ufn wi (n + j) (nwt W q wi n a + nwt W q wi n b)) (ufn (ufn pa a (n + j)) b (n + j)) ∧ unp n (n + j) l x a ∧ unp n (n + j) l x b ∧ a ≠ b ∧ (∀ k, unp n (n + j) l1 x1 k ↔ unp n (n + j) l x k ∧ k ≠ a) ∧ (0 ≤ l1 ∧ l1 ≤ n ∧ n ≤ x1 ∧ x1 ≤ n + j) ∧ (l1 < n ∨ x1 < n + j) ∧ (∀ k, pkd n l2 x2 k ↔ pkd n l x k ∨ k = a ∨ k = b) := by
  obtain ⟨I, c, xj, su⟩ := H
  have B := I.b
  obtain ⟨a', l1', x1', ea', e1', e2', ua, ma, B1, c1, u1, p1⟩ := pick_all hS I.i3 B (by omega)
  have := ea.symm.trans ea'; subst this
  have := e1.symm.trans e1'; subst this
  have := e2.symm.trans e2'; subst this
  obtain ⟨b', l2', x2', eb', e3', e4', ub, mb, B2, c2, u2, p2⟩ := pick_all hS I.i3 B1 (by omega)
  have := eb.symm.trans eb'; subst this
  have := e3.symm.trans e3'; subst this
  have := e4.symm.trans e4'; subst this
  have ub' := (u1 b).mp ub
  have I2 := HI_s I (by omega) ua ub'.1 ub'.2.symm ma (fun k u ka => mb k ((u1 k).mpr ⟨u, ka⟩)) B2 (fun k => by rw [u2, u1]; exact ⟨fun z => ⟨z.1.1, z.1.2, z.2⟩, fun z => ⟨⟨z.1, z.2.1⟩, z.2.2⟩⟩) (fun k => by rw [p2, p1, or_assoc])
  refine ⟨⟨?_, by omega, by omega, ?_⟩, ua, ub'.1, ub'.2.symm, u1, B1, by omega, fun k => by rw [p2, p1, or_assoc]⟩
  · rw [show n + ((j + 1 : Nat) : Int) = n + j + 1 by omega]; exact I2
  · rw [show n + ((j + 1 : Nat) : Int) = n + j + 1 by omega, smi_s (by omega), ufn_e, smi_c (f := ufn wi (n + j) _) (g := wi) (N := n + j) (fun k _ k1 => ufn_n (by omega)), smi_c (f := ufn wi (n + j) _) (g := wi) (N := x2) (fun k _ k1 => ufn_n (by omega)), su]
    have sa : smi wi x + smi (fun i => W (q i)) l + nwt W q wi n a = smi wi x1 + smi (fun i => W (q i)) l1 := by
      by_cases p : pkl W q wi n (n + j) l x
      · have : pkn W q wi n (n + j) l x = l := if_pos p
        have : pkL W q wi n (n + j) l x = l + 1 := if_pos p
        have : pkX W q wi n (n + j) l x = x := if_pos p
        have e : a = l := by omega
        rw [show l1 = l + 1 by omega, show x1 = x by omega, e, smi_s (by omega), nwt_l p.1]; omega
      · have : pkn W q wi n (n + j) l x = x := if_neg p
        have : pkL W q wi n (n + j) l x = l := if_neg p
        have : pkX W q wi n (n + j) l x = x + 1 := if_neg p
        have e : a = x := by omega
        rw [show l1 = l by omega, show x1 = x + 1 by omega, e, smi_s (by omega), nwt_i (by omega)]; omega
    have sb : smi wi x1 + smi (fun i => W (q i)) l1 + nwt W q wi n b = smi wi x2 + smi (fun i => W (q i)) l2 := by
      by_cases p : pkl W q wi n (n + j) l1 x1
      · have : pkn W q wi n (n + j) l1 x1 = l1 := if_pos p
        have : pkL W q wi n (n + j) l1 x1 = l1 + 1 := if_pos p
        have : pkX W q wi n (n + j) l1 x1 = x1 := if_pos p
        have e : b = l1 := by omega
        rw [show l2 = l1 + 1 by omega, show x2 = x1 by omega, e, smi_s (by omega), nwt_l p.1]; omega
      · have : pkn W q wi n (n + j) l1 x1 = x1 := if_neg p
        have : pkL W q wi n (n + j) l1 x1 = l1 := if_neg p
        have : pkX W q wi n (n + j) l1 x1 = x1 + 1 := if_neg p
        have e : b = x1 := by omega
        rw [show l2 = l1 by omega, show x2 = x1 + 1 by omega, e, smi_s (by omega), nwt_i (by omega)]; omega
    omega
theorem hv_0 {W q : Int → Int} {n : Int} (n0 : 0 ≤ n) (hW : ∀ i, 0 ≤ i → i < n → 1 ≤ W (q i)) : HV W q n 0 0 n (fun _ => 0) (fun _ => 0) := by
  refine ⟨⟨by omega, ?_, ?_, ?_, ?_, ?_, ?_, ?_⟩, by omega, by omega, ?_⟩
  · intro k k0 k1; rw [nwt_l (by omega)]; exact hW k k0 (by omega)
  · intro a b p _; unfold pkd at p; omega
  · intro k b k0 k1; omega
  · intro k k' k0 k1 k2; omega
  · intro k p; unfold pkd at p; omega
  · intro k p; unfold pkd at p; omega
  · intro k k2 p; unfold pkd at p; omega
  · show smi _ (n + 0) = smi _ n + 0
    rw [Int.add_zero, Int.add_zero]
/-- all of the invariant, at every join -/
theorem hf_V {W q : Int → Int} {n : Int} (hS : ∀ i j, 0 ≤ i → i ≤ j → j < n → W (q i) ≤ W (q j)) (hW : ∀ i, 0 ≤ i → i < n → 1 ≤ W (q i)) (n0 : 0 ≤ n) : ∀ j : Nat, (j : Int) < n ∨ j = 0 → HV W q n j (hf W q n j).1 (hf W q n j).2.1 (hf W q n j).2.2.1 (hf W q n j).2.2.2 := by
  intro j
  induction j with
  | zero => intro _; exact hv_0 n0 hW
  | succ j ih =>
    intro c
    have H := ih (by omega)
    obtain ⟨a, b, l1, x1, l2, x2, ea, e1, e2, eb, e3, e4, e⟩ := hf_s (W := W) (q := q) (n := n) (j := j) (l := (hf W q n j).1) (x := (hf W q n j).2.1) (wi := (hf W q n j).2.2.1) (pa := (hf W q n j).2.2.2) rfl
    have k := (hv_s hS n0 (by omega) H ea e1 e2 eb e3 e4).1
    rw [e]; exact k
/-- a pick comes first by weight and place; f gives the places -/
theorem pick_lex {W q wi : Int → Int} {n m l x z : Int} (hL : ∀ i j, 0 ≤ i → i < j → j < n → W (q i) < W (q j) ∨ (W (q i) = W (q j) ∧ q i < q j)) (hz : ∀ i, 0 ≤ i → i < n → q i < z) (i3 : ∀ k k', n ≤ k → k ≤ k' → k' < m → wi k ≤ wi k') (b : 0 ≤ l ∧ l ≤ n ∧ n ≤ x ∧ x ≤ m) (ne : l < n ∨ x < m) : ∀ b, unp n m l x b → nwt W q wi n (pkn W q wi n m l x) < nwt W q wi n b ∨ (nwt W q wi n (pkn W q wi n m l x) = nwt W q wi n b ∧ (if pkn W q wi n m l x < n then q (pkn W q wi n m l x) else z + (pkn W q wi n m l x - n)) ≤ (if b < n then q b else z + (b - n))) := by
  have hS : ∀ i j, 0 ≤ i → i ≤ j → j < n → W (q i) ≤ W (q j) := by
    intro i j i0 ij jn
    by_cases e : i = j
    · rw [e]; exact Int.le_refl _
    · have := hL i j i0 (by omega) jn; omega
  intro k u
  by_cases c : pkl W q wi n m l x
  · rw [show pkn W q wi n m l x = l from if_pos c, nwt_l c.1, if_pos c.1]
    rcases u with u | u
    · rw [nwt_l u.2, if_pos u.2]
      by_cases e : l = k
      · rw [e]; exact Or.inr ⟨rfl, Int.le_refl _⟩
      · have := hL l k b.1 (by omega) u.2; omega
    · rw [nwt_i (by omega), if_neg (by omega)]
      have := hz l b.1 c.1
      rcases c.2 with e | e
      · omega
      · have := i3 x k b.2.2.1 u.1 u.2; omega
  · have xm := (pick_inner hS i3 b ne c).1
    rw [show pkn W q wi n m l x = x from if_neg c, nwt_i b.2.2.1, if_neg (by omega)]
    rcases u with u | u
    · rw [nwt_l u.2]
      have h1 := hS l k b.1 u.1 u.2
      by_cases d : W (q l) ≤ wi x
      · exact absurd ⟨by omega, Or.inr d⟩ c
      · omega
    · rw [nwt_i (by omega), if_neg (by omega)]
      have := i3 x k b.2.2.1 u.1 u.2; omega
/-- the model's pick: the first of the least among those not joined -/
def lea (J wt : Int → Int) : Nat → Int
  | 0 => -1
  | k + 1 => if J k = 0 ∧ (lea J wt k < 0 ∨ wt k < wt (lea J wt k)) then k else lea J wt k
theorem lea_v {J wt : Int → Int} : ∀ N : Nat, (lea J wt N = -1 ∧ ∀ k : Int, 0 ≤ k → k < N → J k ≠ 0) ∨ (0 ≤ lea J wt N ∧ lea J wt N < N ∧ J (lea J wt N) = 0 ∧ ∀ k : Int, 0 ≤ k → k < N → J k = 0 → wt (lea J wt N) < wt k ∨ (wt (lea J wt N) = wt k ∧ lea J wt N ≤ k)) := by
  intro N
  induction N with
  | zero => exact Or.inl ⟨rfl, fun k a b => by omega⟩
  | succ N ih =>
    have e : lea J wt (N + 1) = if J N = 0 ∧ (lea J wt N < 0 ∨ wt N < wt (lea J wt N)) then (N : Int) else lea J wt N := rfl
    by_cases c : J N = 0 ∧ (lea J wt N < 0 ∨ wt N < wt (lea J wt N))
    · rw [e, if_pos c]
      refine Or.inr ⟨by omega, by omega, c.1, fun k k0 k1 jk => ?_⟩
      by_cases d : k = N
      · rw [d]; exact Or.inr ⟨rfl, Int.le_refl _⟩
      · rcases ih with i | i
        · exact absurd jk (i.2 k k0 (by omega))
        · have := i.2.2.2 k k0 (by omega) jk
          rcases c.2 with g | g <;> omega
    · rw [e, if_neg c]
      rcases ih with i | i
      · refine Or.inl ⟨i.1, fun k k0 k1 => ?_⟩
        by_cases d : k = N
        · intro g; rw [d] at g; exact c ⟨g, Or.inl (by omega)⟩
        · exact i.2 k k0 (by omega)
      · refine Or.inr ⟨i.1, by omega, i.2.2.1, fun k k0 k1 jk => ?_⟩
        by_cases d : k = N
        · rw [d] at jk ⊢
          by_cases g : wt N < wt (lea J wt N)
          · exact absurd ⟨jk, Or.inr g⟩ c
          · have := i.2.1; omega
        · exact i.2.2.2 k k0 (by omega) jk
theorem lea_e {J wt : Int → Int} {N : Nat} {x : Int} (x0 : 0 ≤ x) (x1 : x < N) (jx : J x = 0) (h : ∀ k : Int, 0 ≤ k → k < N → J k = 0 → wt x < wt k ∨ (wt x = wt k ∧ x ≤ k)) : lea J wt N = x := by
  rcases lea_v (J := J) (wt := wt) N with i | i
  · exact absurd jx (i.2 x x0 x1)
  · have a := i.2.2.2 x x0 x1 jx
    have b := h _ i.1 i.2.1 i.2.2.1
    omega
/-- depth below the root r -/
def dpf (pa : Int → Int) (r : Int) : Nat → Int → Int
  | 0, _ => 0
  | d + 1, k => if k = r then 0 else dpf pa r d (pa k) + 1
theorem dpf_f {pa : Int → Int} {r : Int} (h : ∀ k, 0 ≤ k → k < r → k < pa k ∧ pa k ≤ r) : ∀ (d d' : Nat) (k : Int), 0 ≤ k → k ≤ r → r - k ≤ d → r - k ≤ d' → dpf pa r d k = dpf pa r d' k := by
  intro d
  induction d with
  | zero =>
    intro d' k k0 kr a b
    cases d' with
    | zero => rfl
    | succ d' => show 0 = (if k = r then 0 else _); rw [if_pos (by omega)]
  | succ d ih =>
    intro d' k k0 kr a b
    cases d' with
    | zero => show (if k = r then 0 else _) = 0; rw [if_pos (by omega)]
    | succ d' =>
      show (if k = r then 0 else dpf pa r d (pa k) + 1) = (if k = r then 0 else dpf pa r d' (pa k) + 1)
      by_cases e : k = r
      · rw [if_pos e, if_pos e]
      · rw [if_neg e, if_neg e]
        have := h k k0 (by omega)
        rw [ih d' (pa k) (by omega) (by omega) (by omega) (by omega)]
def dep (pa : Int → Int) (r k : Int) : Int := dpf pa r (r - k).toNat k
theorem dep_r {pa : Int → Int} {r : Int} : dep pa r r = 0 := by
  unfold dep; rw [show (r - r).toNat = 0 by omega]; rfl
theorem dep_s {pa : Int → Int} {r k : Int} (h : ∀ k, 0 ≤ k → k < r → k < pa k ∧ pa k ≤ r) (k0 : 0 ≤ k) (kr : k < r) : dep pa r k = dep pa r (pa k) + 1 := by
  unfold dep
  rw [show (r - k).toNat = (r - k - 1).toNat + 1 by omega]
  show (if k = r then 0 else dpf pa r (r - k - 1).toNat (pa k) + 1) = _
  have := h k k0 kr
  rw [if_neg (by omega), dpf_f h _ (r - pa k).toNat (pa k) (by omega) (by omega) (by omega) (by omega)]
theorem dep_b {pa : Int → Int} {r : Int} (h : ∀ k, 0 ≤ k → k < r → k < pa k ∧ pa k ≤ r) : ∀ (d : Nat) (k : Int), r - k ≤ d → 0 ≤ k → k ≤ r → 0 ≤ dep pa r k ∧ dep pa r k ≤ r - k := by
  intro d
  induction d with
  | zero => intro k a k0 kr; rw [show k = r by omega, dep_r]; omega
  | succ d ih =>
    intro k a k0 kr
    by_cases e : k = r
    · rw [e, dep_r]; omega
    · have := h k k0 (by omega)
      rw [dep_s h k0 (by omega)]
      have := ih (pa k) (by omega) (by omega) (by omega)
      omega
/-- the least weight of a tree so deep -/
def fb : Nat → Int
  | 0 => 1
  | 1 => 2
  | k + 2 => fb (k + 1) + fb k
theorem fb_p : ∀ k : Nat, 1 ≤ fb k ∧ fb k ≤ fb (k + 1) := by
  intro k
  induction k with
  | zero => exact ⟨by decide, by decide⟩
  | succ k ih => have e : fb (k + 1 + 1) = fb (k + 1) + fb k := rfl; omega
theorem fb_m {k : Nat} : ∀ d : Nat, fb k ≤ fb (k + d) := by
  intro d
  induction d with
  | zero => exact Int.le_refl _
  | succ d ih => have := (fb_p (k + d)).2; rw [show k + (d + 1) = k + d + 1 by omega]; omega
theorem fb_l {pa wt : Int → Int} {r : Int} (h : ∀ k, 0 ≤ k → k < r → k < pa k ∧ pa k ≤ r) (s2 : ∀ k k2, 0 ≤ k → k < r → 0 ≤ k2 → k2 < r → pa k2 = k → wt k + wt k2 ≤ wt (pa k)) : ∀ (d : Nat) (i : Nat) (k k2 : Int), 0 ≤ k2 → k2 < r → pa k2 = k → dep pa r k = d → fb (i + 1) ≤ wt k → fb i ≤ wt k2 → fb (i + 1 + d) ≤ wt r := by
  intro d
  induction d with
  | zero =>
    intro i k k2 k0 k1 e dk w1 w2
    have := h k2 k0 k1
    by_cases g : k = r
    · rw [← g]; exact w1
    · have := dep_s h (k := k) (by omega) (by omega)
      have := dep_b h (r - pa k).toNat (pa k) (by omega) (by have := h k (by omega) (by omega); omega) (by have := h k (by omega) (by omega); omega)
      omega
  | succ d ih =>
    intro i k k2 k0 k1 e dk w1 w2
    have := h k2 k0 k1
    have g : k ≠ r := by intro g; rw [g, dep_r] at dk; omega
    have ds := dep_s h (k := k) (by omega) (by omega)
    have s := s2 k k2 (by omega) (by omega) k0 k1 e
    have f : fb (i + 1 + 1) = fb (i + 1) + fb i := rfl
    have := ih (i + 1) (pa k) k (by omega) (by omega) rfl (by omega) (by omega) w1
    rw [show i + 1 + (d + 1) = i + 1 + 1 + d by omega]; exact this
/-- a leaf so deep makes the root so heavy -/
theorem fb_d {pa wt : Int → Int} {r k : Int} {D : Nat} (h : ∀ k, 0 ≤ k → k < r → k < pa k ∧ pa k ≤ r) (s1 : ∀ k, 0 ≤ k → k < r → wt k + 1 ≤ wt (pa k)) (s2 : ∀ k k2, 0 ≤ k → k < r → 0 ≤ k2 → k2 < r → pa k2 = k → wt k + wt k2 ≤ wt (pa k)) (k0 : 0 ≤ k) (k1 : k < r) (wk : 1 ≤ wt k) (c : (D : Int) ≤ dep pa r k) : fb D ≤ wt r := by
  have ds := dep_s h k0 k1
  have hk := h k k0 k1
  have db := dep_b h (r - pa k).toNat (pa k) (by omega) (by omega) (by omega)
  have s := s1 k k0 k1
  have := fb_l h s2 (dep pa r (pa k)).toNat 0 (pa k) k k0 k1 rfl (by omega) (by show 2 ≤ _; omega) (by show 1 ≤ _; omega)
  have e : 0 + 1 + (dep pa r (pa k)).toNat = D + (0 + 1 + (dep pa r (pa k)).toNat - D) := by omega
  have m := fb_m (k := D) (0 + 1 + (dep pa r (pa k)).toNat - D)
  rw [← e] at m
  omega
/-- inner weights stay below the sum -/
theorem hv_b {W q wi pa : Int → Int} {n l x : Int} {j z : Nat} (n0 : 0 ≤ n) (H : HV W q n j l x wi pa) (qz : ∀ i, 0 ≤ i → i < n → 0 ≤ q i ∧ q i < z) (qd : ∀ i j, 0 ≤ i → i < j → j < n → q i ≠ q j) (W0 : ∀ s : Int, 0 ≤ s → s < z → 0 ≤ W s) : ∀ k, n ≤ k → k < n + j → 1 ≤ wi k ∧ wi k ≤ sgm W z := by
  intro k k0 k1
  obtain ⟨I, c, xj, su⟩ := H
  have B := I.b
  have xe := xj (by omega)
  have p : ∀ i, n ≤ i → i < n + j → 1 ≤ wi i := by
    intro i i0 i1
    have := I.po i (by omega) i1
    rw [nwt_i i0] at this; exact this
  have k3 := I.i3 k (n + j - 1) k0 (by omega) (by omega)
  have s := smi_s (f := wi) (k := n + j - 1) (by omega)
  rw [show n + (j : Int) - 1 + 1 = n + j by omega] at s
  have m1 := smi_mo (f := wi) (a := x) (b := n + j - 1) (by omega) (by omega) (fun i a b => by have := p i (by omega) (by omega); omega)
  have m2 := smi_mo (f := fun i => W (q i)) (a := l) (b := n) (by omega) (by omega) (fun i a b => W0 _ (qz i (by omega) b).1 (qz i (by omega) b).2)
  have m3 := sgm_q (z := z) (q := q) n.toNat W (fun i a b => qz i a (by omega)) (fun i j a b c => qd i j a b (by omega)) W0
  have e2 : smi (fun i => W (q i)) n = sgm (fun i => W (q i)) n.toNat := rfl
  have := p k k0 k1
  omega
/-- picks see the inner weights below m only -/
theorem pk_c {W q wi wi' : Int → Int} {n m l x : Int} (e : ∀ k, n ≤ k → k < m → wi' k = wi k) (b : n ≤ x ∧ x ≤ m) : pkl W q wi' n m l x ↔ pkl W q wi n m l x := by
  unfold pkl
  by_cases c : x = m
  · exact ⟨fun z => ⟨z.1, Or.inl c⟩, fun z => ⟨z.1, Or.inl c⟩⟩
  · rw [e x b.1 (by omega)]
