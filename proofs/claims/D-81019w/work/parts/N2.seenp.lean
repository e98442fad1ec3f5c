set_option maxRecDepth 100000
/-- bodies of active slots below N, each once, as they come -/
def snl (ac : Int → Bool) (bo : Int → Int) : Nat → List Int
  | 0 => []
  | N + 1 => if ac N = true ∧ bo N ∉ snl ac bo N then snl ac bo N ++ [bo N] else snl ac bo N
def pls (z : Int → Int) (L : List Int) : Int := (L.map (fun x => pd4 (z x))).sum
/-- how far body x lies behind the first, in a list of bodies -/
def plb (z : Int → Int) : List Int → Int → Int
  | [], _ => 0
  | y :: L, x => if y = x then 0 else pd4 (z y) + plb z L x
theorem pls_0 (z : Int → Int) : pls z [] = 0 := rfl
theorem pls_a (z : Int → Int) (L : List Int) (x : Int) : pls z (L ++ [x]) = pls z L + pd4 (z x) := by
  unfold pls
  rw [List.map_append, List.sum_append]
  simp
theorem pls_c (z : Int → Int) (y : Int) (L : List Int) : pls z (y :: L) = pd4 (z y) + pls z L := by
  unfold pls
  rw [List.map_cons, List.sum_cons]
theorem plb_n {z : Int → Int} {x : Int} : ∀ {L : List Int}, x ∉ L → plb z L x = pls z L := by
  intro L
  induction L with
  | nil => intro _; rfl
  | cons y L ih =>
    intro q
    rw [plb, if_neg (fun e => q (by rw [e]; exact List.mem_cons_self)), pls_c, ih (fun e => q (List.mem_cons_of_mem _ e))]
theorem plb_o {z : Int → Int} {x : Int} {M : List Int} : ∀ {L : List Int}, x ∈ L → plb z (L ++ M) x = plb z L x := by
  intro L
  induction L with
  | nil => intro q; simp at q
  | cons y L ih =>
    intro q
    rw [List.cons_append, plb, plb]
    by_cases e : y = x
    · rw [if_pos e, if_pos e]
    · rw [if_neg e, if_neg e, ih (by rcases List.mem_cons.1 q with g | g; exact absurd g.symm e; exact g)]
theorem plb_l {z : Int → Int} {x : Int} {L : List Int} (q : x ∉ L) (M : List Int) : plb z (L ++ x :: M) x = pls z L := by
  induction L with
  | nil => rw [List.nil_append, plb, if_pos rfl]; rfl
  | cons y L ih => rw [List.cons_append, plb, if_neg (fun e => q (by rw [e]; exact List.mem_cons_self)), pls_c, ih (fun e => q (List.mem_cons_of_mem _ e))]
theorem pd4_r {x : Int} (h : 0 ≤ x ∧ x ≤ 12000) : x ≤ pd4 x ∧ pd4 x ≤ 12000 ∧ pd4 x ≤ x + 3 ∧ pd4 x % 4 = 0 := by unfold pd4; omega
theorem pls_r {z : Int → Int} : ∀ {L : List Int}, (∀ x ∈ L, 0 ≤ z x ∧ z x ≤ 12000) → 0 ≤ pls z L ∧ pls z L ≤ 12000 * L.length ∧ pls z L % 4 = 0 := by
  intro L
  induction L with
  | nil => intro _; rw [pls_0]; exact ⟨by omega, by simp, by omega⟩
  | cons y L ih =>
    intro q
    rw [pls_c]
    have h1 := ih (fun x hx => q x (List.mem_cons_of_mem _ hx))
    have h2 := pd4_r (q y List.mem_cons_self)
    have h3 := (q y List.mem_cons_self)
    rw [List.length_cons]
    omega
theorem plb_r {z : Int → Int} {x : Int} : ∀ {L : List Int}, x ∈ L → (∀ y ∈ L, 0 ≤ z y ∧ z y ≤ 12000) → 0 ≤ plb z L x ∧ plb z L x + pd4 (z x) ≤ pls z L := by
  intro L
  induction L with
  | nil => intro q; simp at q
  | cons y L ih =>
    intro q r
    rw [pls_c, plb]
    have h2 := pd4_r (r y List.mem_cons_self)
    have h3 := r y List.mem_cons_self
    have h4 := pls_r (z := z) (L := L) (fun x hx => r x (List.mem_cons_of_mem _ hx))
    by_cases e : y = x
    · rw [if_pos e, e]; omega
    · rw [if_neg e]
      have := ih (by rcases List.mem_cons.1 q with g | g; exact absurd g.symm e; exact g) (fun x hx => r x (List.mem_cons_of_mem _ hx))
      omega
section
variable {ac : Int → Bool} {bo : Int → Int}
theorem snl_y {N : Int} (n0 : 0 ≤ N) (a : ac N = true) (q : bo N ∉ snl ac bo N.toNat) : snl ac bo (N + 1).toNat = snl ac bo N.toNat ++ [bo N] := by
  rw [show (N + 1).toNat = N.toNat + 1 by omega, snl, show ((N.toNat : Nat) : Int) = N by omega, if_pos ⟨a, q⟩]
theorem snl_o {N : Int} (n0 : 0 ≤ N) (q : bo N ∈ snl ac bo N.toNat) : snl ac bo (N + 1).toNat = snl ac bo N.toNat := by
  rw [show (N + 1).toNat = N.toNat + 1 by omega, snl, show ((N.toNat : Nat) : Int) = N by omega, if_neg (fun e => e.2 q)]
theorem snl_f {N : Int} (n0 : 0 ≤ N) (a : ac N = false) : snl ac bo (N + 1).toNat = snl ac bo N.toNat := by
  rw [show (N + 1).toNat = N.toNat + 1 by omega, snl, show ((N.toNat : Nat) : Int) = N by omega, if_neg (fun e => by rw [a] at e; exact Bool.noConfusion e.1)]
theorem snl_len : ∀ N : Nat, (snl ac bo N).length ≤ N := by
  intro N
  induction N with
  | zero => exact Nat.le_refl _
  | succ N ih =>
    rw [snl]
    split
    · rw [List.length_append, List.length_singleton]; omega
    · omega
theorem snl_mem {x : Int} : ∀ N : Nat, x ∈ snl ac bo N ↔ ∃ j : Int, 0 ≤ j ∧ j < N ∧ ac j = true ∧ bo j = x := by
  intro N
  induction N with
  | zero => rw [snl]; exact ⟨fun q => by simp at q, fun ⟨j, a, b, _⟩ => by omega⟩
  | succ N ih =>
    rw [snl]
    constructor
    · intro q
      split at q
      · rename_i c
        rcases List.mem_append.1 q with g | g
        · obtain ⟨j, a, b, d⟩ := ih.1 g; exact ⟨j, a, by omega, d⟩
        · simp only [List.mem_cons, List.not_mem_nil, or_false] at g
          exact ⟨N, by omega, by omega, c.1, g.symm⟩
      · obtain ⟨j, a, b, d⟩ := ih.1 q; exact ⟨j, a, by omega, d⟩
    · intro ⟨j, a, b, c, d⟩
      by_cases e : j = N
      · split
        · rename_i g
          rw [← d, e]; exact List.mem_append.2 (Or.inr List.mem_cons_self)
        · rename_i g
          rw [e] at c d
          have := Classical.not_not.1 (fun z => g ⟨c, z⟩)
          rw [← d]; exact this
      · have := ih.2 ⟨j, a, by omega, c, d⟩
        split
        · exact List.mem_append.2 (Or.inl this)
        · exact this
theorem snl_pre (N : Nat) : ∀ d : Nat, ∃ R, snl ac bo (N + d) = snl ac bo N ++ R := by
  intro d
  induction d with
  | zero => exact ⟨[], by simp⟩
  | succ d ih =>
    obtain ⟨R, e⟩ := ih
    rw [← Nat.add_assoc, snl]
    split
    · exact ⟨R ++ [bo ((N + d : Nat) : Int)], by rw [e, List.append_assoc]⟩
    · exact ⟨R, e⟩
/-- slots that are not active may be passed over -/
theorem snl_sk {N : Int} (n0 : 0 ≤ N) : ∀ d : Nat, (∀ j : Int, N ≤ j → j < N + d → ac j = false) → snl ac bo (N + d).toNat = snl ac bo N.toNat := by
  intro d
  induction d with
  | zero => intro _; rw [show N + ((0 : Nat) : Int) = N by omega]
  | succ d ih =>
    intro q
    rw [show N + ((d + 1 : Nat) : Int) = N + d + 1 by omega, snl_f (by omega) (q _ (by omega) (by omega))]
    exact ih (fun j a b => q j a (by omega))
/-- a body's place, once it is there, stays -/
theorem plb_s {z : Int → Int} {x : Int} {N M : Nat} (h : N ≤ M) (q : x ∈ snl ac bo N) : plb z (snl ac bo M) x = plb z (snl ac bo N) x := by
  obtain ⟨R, e⟩ := snl_pre (ac := ac) (bo := bo) N (M - N)
  rw [show N + (M - N) = M by omega] at e
  rw [e]
  exact plb_o q
/-- a new body's place, in the end -/
theorem plb_w {z : Int → Int} {N M : Int} (n0 : 0 ≤ N) (h : N < M) (a : ac N = true) (q : bo N ∉ snl ac bo N.toNat) : plb z (snl ac bo M.toNat) (bo N) = pls z (snl ac bo N.toNat) := by
  have e := snl_y n0 a q
  rw [plb_s (N := (N + 1).toNat) (by omega) (by rw [e]; exact List.mem_append.2 (Or.inr List.mem_cons_self)), e]
  exact plb_l q []
/-- the same, by other names -/
theorem snl_map {β : Int → Int} : ∀ N : Nat, (∀ i j : Int, 0 ≤ i → i < N → 0 ≤ j → j < N → ac i = true → ac j = true → β (bo i) = β (bo j) → bo i = bo j) → snl ac (fun i => β (bo i)) N = (snl ac bo N).map β := by
  intro N
  induction N with
  | zero => intro _; rfl
  | succ N ih =>
    intro q
    have e := ih (fun i j a b c d => q i j a (by omega) c (by omega))
    rw [snl, snl, e]
    by_cases c : ac N = true ∧ bo N ∉ snl ac bo N
    · have c2 : β (bo N) ∉ (snl ac bo N).map β := fun g => by
        obtain ⟨y, y1, y2⟩ := List.mem_map.1 g
        obtain ⟨j, j0, j1, j2, j3⟩ := (snl_mem N).1 y1
        have := q j N j0 (by omega) (by omega) (by omega) j2 c.1 (by rw [j3]; exact y2)
        exact c.2 (by rw [← this, j3]; exact y1)
      rw [if_pos c, if_pos ⟨c.1, c2⟩, List.map_append]
      rfl
    · rw [if_neg c, if_neg (fun g => c ⟨g.1, fun k => g.2 (List.mem_map.2 ⟨_, k, rfl⟩)⟩)]
end
theorem pls_m {z : Int → Int} {β : Int → Int} (L : List Int) : pls z (L.map β) = pls (fun x => z (β x)) L := by
  unfold pls
  rw [List.map_map]
  rfl
theorem plb_m {z β : Int → Int} {x : Int} : ∀ {L : List Int}, (∀ y ∈ L, β y = β x → y = x) → plb z (L.map β) (β x) = plb (fun y => z (β y)) L x := by
  intro L
  induction L with
  | nil => intro _; rfl
  | cons y L ih =>
    intro q
    rw [List.map_cons, plb, plb, ih (fun a b => q a (List.mem_cons_of_mem _ b))]
    by_cases e : y = x
    · rw [if_pos e, if_pos (by rw [e])]
    · rw [if_neg e, if_neg (fun g => e (q y List.mem_cons_self g))]
theorem pls_g {z z' : Int → Int} : ∀ {L : List Int}, (∀ x ∈ L, z x = z' x) → pls z L = pls z' L := by
  intro L
  induction L with
  | nil => intro _; rfl
  | cons y L ih => intro q; rw [pls_c, pls_c, q y List.mem_cons_self, ih (fun a b => q a (List.mem_cons_of_mem _ b))]
theorem plb_g {z z' : Int → Int} {x : Int} : ∀ {L : List Int}, (∀ y ∈ L, z y = z' y) → plb z L x = plb z' L x := by
  intro L
  induction L with
  | nil => intro _; rfl
  | cons y L ih => intro q; rw [plb, plb, q y List.mem_cons_self, ih (fun a b => q a (List.mem_cons_of_mem _ b))]
/-- bodies behind a list, each filled up to a fourth -/
def bdl (L : List Int) (g : Int → Int → Int) (z : Int → Int) : List Int → List Int
  | [] => L
  | x :: r => bdl (L ++ slc (g x) 0 (z x).toNat ++ List.replicate (pdn (L ++ slc (g x) 0 (z x).toNat)) 0) g z r
theorem bdl_a {g : Int → Int → Int} {z : Int → Int} {x : Int} : ∀ {R L : List Int}, bdl L g z (R ++ [x]) = bdl L g z R ++ slc (g x) 0 (z x).toNat ++ List.replicate (pdn (bdl L g z R ++ slc (g x) 0 (z x).toNat)) 0 := by
  intro R
  induction R with
  | nil => intro L; rfl
  | cons y R ih => intro L; rw [List.cons_append, bdl, ih, bdl]
theorem bdl_l {g : Int → Int → Int} {z : Int → Int} : ∀ {R L : List Int}, (∀ x ∈ R, 0 ≤ z x ∧ z x ≤ 12000) → L.length % 4 = 0 → ((bdl L g z R).length : Int) = L.length + pls z R := by
  intro R
  induction R with
  | nil => intro L _ _; rw [bdl, pls_0]; omega
  | cons y R ih =>
    intro L q l4
    have zy := q y List.mem_cons_self
    have len : (((L ++ slc (g y) 0 (z y).toNat ++ List.replicate (pdn (L ++ slc (g y) 0 (z y).toNat)) 0).length : Nat) : Int) = L.length + pd4 (z y) ∧ (L ++ slc (g y) 0 (z y).toNat ++ List.replicate (pdn (L ++ slc (g y) 0 (z y).toNat)) 0).length % 4 = 0 := by
      rw [List.length_append, List.length_append, slc_l, List.length_replicate]
      unfold pdn pd4
      rw [List.length_append, slc_l]
      omega
    rw [bdl, ih (fun x hx => q x (List.mem_cons_of_mem _ hx)) len.2, pls_c, len.1]
    omega
theorem bdl_g {g g' : Int → Int → Int} {z z' : Int → Int} : ∀ {R L : List Int}, (∀ x ∈ R, z x = z' x ∧ ∀ j, 0 ≤ j → j < z x → g x j = g' x j) → bdl L g z R = bdl L g' z' R := by
  intro R
  induction R with
  | nil => intro L _; rfl
  | cons y R ih =>
    intro L q
    have q1 := q y List.mem_cons_self
    have e : slc (g y) 0 (z y).toNat = slc (g' y) 0 (z' y).toNat := by
      rw [← q1.1]
      exact slc_c (fun i hi => q1.2 _ (by omega) (by omega))
    rw [bdl, bdl, e]
    exact ih (fun x hx => q x (List.mem_cons_of_mem _ hx))
theorem bdl_m {g : Int → Int → Int} {z β : Int → Int} : ∀ {R L : List Int}, bdl L g z (R.map β) = bdl L (fun x => g (β x)) (fun x => z (β x)) R := by
  intro R
  induction R with
  | nil => intro L; rfl
  | cons y R ih => intro L; rw [List.map_cons, bdl, bdl, ih]
theorem byt_bd {g : Int → Int → Int} {z : Int → Int} : ∀ {R L : List Int}, byt L → (∀ x ∈ R, ∀ j, 0 ≤ j → j < z x → -128 ≤ g x j ∧ g x j ≤ 127) → byt (bdl L g z R) := by
  intro R
  induction R with
  | nil => intro L b _; exact b
  | cons y R ih =>
    intro L b q
    rw [bdl]
    refine ih (byt_a (byt_a b (byt_s (fun i hi => ?_))) byt_z) (fun x hx => q x (List.mem_cons_of_mem _ hx))
    exact q y List.mem_cons_self _ (by omega) (by omega)
/-- where the directories begin -/
def dst (mb : Int → Bool) (c : Int → Int) (s0 : Int) : Nat → Int
  | 0 => s0
  | p + 1 => if mb p = true then dst mb c s0 p + (12 + 16 * c p) else dst mb c s0 p
def stL (mb : Int → Bool) (c : Int → Int) (s0 : Int) : Nat → List Int
  | 0 => []
  | p + 1 => if mb p = true then stL mb c s0 p ++ f4 (dst mb c s0 p) else stL mb c s0 p
def dsL (mb : Int → Bool) (d : Int → List Int) : Nat → List Int
  | 0 => []
  | p + 1 => if mb p = true then dsL mb d p ++ d p else dsL mb d p
def mny (mb : Int → Bool) : Nat → Int
  | 0 => 0
  | p + 1 => if mb p = true then mny mb p + 1 else mny mb p
theorem mny_r (mb : Int → Bool) : ∀ k : Nat, 0 ≤ mny mb k ∧ mny mb k ≤ k := by
  intro k
  induction k with
  | zero => exact ⟨by rw [mny]; omega, by rw [mny]; omega⟩
  | succ k ih => rw [mny]; split <;> omega
theorem dst_r {mb : Int → Bool} {c : Int → Int} {s0 : Int} : ∀ k : Nat, (∀ p : Int, 0 ≤ p → p < k → mb p = true → 0 ≤ c p ∧ c p ≤ 16) → s0 ≤ dst mb c s0 k ∧ dst mb c s0 k ≤ s0 + 268 * k := by
  intro k
  induction k with
  | zero => intro _; rw [dst]; omega
  | succ k ih =>
    intro q
    have h1 := ih (fun p a b => q p a (by omega))
    rw [dst]
    split
    · rename_i e
      have := q k (by omega) (by omega) e
      omega
    · omega
theorem stL_l {mb : Int → Bool} {c : Int → Int} {s0 : Int} : ∀ k : Nat, ((stL mb c s0 k).length : Int) = 4 * mny mb k := by
  intro k
  induction k with
  | zero => rw [stL, mny]; rfl
  | succ k ih =>
    rw [stL, mny]
    split
    · rw [List.length_append, show (f4 (dst mb c s0 k)).length = 4 from rfl]; omega
    · exact ih
theorem dsL_l {mb : Int → Bool} {c : Int → Int} {d : Int → List Int} {s0 : Int} : ∀ k : Nat, (∀ p : Int, 0 ≤ p → p < k → mb p = true → ((d p).length : Int) = 12 + 16 * c p) → ((dsL mb d k).length : Int) = dst mb c s0 k - s0 := by
  intro k
  induction k with
  | zero => intro _; rw [dsL, dst]; simp
  | succ k ih =>
    intro q
    have h1 := ih (fun p a b => q p a (by omega))
    rw [dsL, dst]
    split
    · rename_i e
      have := q k (by omega) (by omega) e
      rw [List.length_append]; omega
    · exact h1
theorem dsL_g {mb : Int → Bool} {d d' : Int → List Int} : ∀ k : Nat, (∀ p : Int, 0 ≤ p → p < k → mb p = true → d p = d' p) → dsL mb d k = dsL mb d' k := by
  intro k
  induction k with
  | zero => intro _; rfl
  | succ k ih =>
    intro q
    rw [dsL, dsL, ih (fun p a b => q p a (by omega))]
    split
    · rename_i e; rw [q k (by omega) (by omega) e]
    · rfl
theorem dst_g {mb : Int → Bool} {c c' : Int → Int} {s0 : Int} : ∀ k : Nat, (∀ p : Int, 0 ≤ p → p < k → mb p = true → c p = c' p) → dst mb c s0 k = dst mb c' s0 k ∧ stL mb c s0 k = stL mb c' s0 k := by
  intro k
  induction k with
  | zero => intro _; exact ⟨rfl, rfl⟩
  | succ k ih =>
    intro q
    have h1 := ih (fun p a b => q p a (by omega))
    rw [dst, dst, stL, stL, h1.1, h1.2]
    constructor
    · split
      · rename_i e; rw [q k (by omega) (by omega) e]
      · rfl
    · rfl
theorem byt_ds {mb : Int → Bool} {d : Int → List Int} (b : ∀ p, byt (d p)) : ∀ k : Nat, byt (dsL mb d k) := by
  intro k
  induction k with
  | zero => exact byt_0
  | succ k ih => rw [dsL]; split; exact byt_a ih (b _); exact ih
theorem byt_st {mb : Int → Bool} {c : Int → Int} {s0 : Int} : ∀ k : Nat, byt (stL mb c s0 k) := by
  intro k
  induction k with
  | zero => exact byt_0
  | succ k ih => rw [stL]; split; exact byt_a ih (f4_r _); exact ih
