set_option maxRecDepth 100000
theorem bg_l {k : Int} (k0 : 0 ≤ k ∧ k < 256) : bg k = 256 * k := by unfold bg; repeat' (first | omega | split)
theorem bg_c {k : Int} (k0 : 0 ≤ k ∧ k < 256) : bg (256 + k) = 65536 + 704 * k := by unfold bg; repeat' (first | omega | split)
theorem bg_d {k : Int} (k0 : 0 ≤ k ∧ k < 256) : bg (512 + k) = 245760 + 520 * k := by unfold bg; repeat' (first | omega | split)
/-- what was told of a block so far -/
def PBk (po di nl nd zl zc zd : Int) (h w : Mem) : Prop := (1 ≤ nl ∧ nl ≤ 256 ∧ 1 ≤ nd ∧ nd ≤ 256 ∧ zl ≤ 256 ∧ zc ≤ 256 ∧ zd ≤ 256) ∧ (w 17 25 = po ∧ w 17 26 = di ∧ 0 ≤ po ∧ po ≤ 3 ∧ 0 ≤ di ∧ di ≤ 15 * 2 ^ po.toNat) ∧
  (∀ k : Int, 0 ≤ k → k < zl → CR h w 295 256 k k 256) ∧ (∀ k : Int, 0 ≤ k → k < zc → CR h w 298 704 k (256 + k) 704) ∧ (∀ k : Int, 0 ≤ k → k < zd → CR h w 301 520 k (512 + k) (16 + di + 48 * 2 ^ po.toNat)) ∧
  (∀ i : Int, 0 ≤ i → i < 64 * h 279 0 → h 304 i = w 33 i ∧ 0 ≤ h 304 i ∧ h 304 i < nl) ∧ (∀ i : Int, 0 ≤ i → i < 4 * h 279 2 → h 305 i = w 34 i ∧ 0 ≤ h 305 i ∧ h 305 i < nd) ∧ (∀ k : Int, 0 ≤ k → k < h 279 0 → h 306 k = w 32 k ∧ 0 ≤ h 306 k ∧ h 306 k ≤ 3) ∧ (RK 0 h w ∧ RK 1 h w ∧ RK 2 h w)
theorem rk_te {n x0 room k c i : Int} {h w h1 w1 : Mem} (n0 : 500 ≤ n) (xn : 292 ≤ x0 ∧ x0 ≤ 301) (i0 : 0 ≤ i ∧ i < 3) (bb : (0 ≤ c ∧ c < 768 ∧ 0 ≤ bg c ∧ bg c + room ≤ 378880) ∨ (c = 774)) (K : RK i h w) (f1 : SC n (teC x0 room k) h h1) (f2 : SM (teM c room) w w1) : RK i h1 w1 := by
  obtain ⟨a, b, d⟩ := K
  have b1 := bg_768 i0
  have b2 := bg_771 i0
  have b7 : bg 774 = 379732 := bg_774
  have hc : ∀ a : Int, 279 ≤ a → a ≤ 282 → h1 a i = h a i := fun a q0 q1 => f1 a i (by omega) (by omega) (fun q => by unfold teC at q; omega)
  have hw : ∀ a : Int, 28 ≤ a → a ≤ 31 → w1 a i = w a i := fun a q0 q1 => f2 a i (by omega) (fun q => by unfold teM at q; omega)
  unfold RK
  rw [hc 279 (by omega) (by omega), hc 280 (by omega) (by omega), hc 281 (by omega) (by omega), hc 282 (by omega) (by omega), hw 28 (by omega) (by omega), hw 29 (by omega) (by omega), hw 30 (by omega) (by omega), hw 31 (by omega) (by omega)]
  refine ⟨a, b, fun g => ?_⟩
  obtain ⟨c1, c2, c3, c4, c5⟩ := d g
  have h2 : ∀ a j : Int, 284 ≤ a → a ≤ 288 → h1 a j = h a j := fun a j q0 q1 => f1 a j (by omega) (by omega) (fun q => by unfold teC at q; omega)
  refine ⟨c1, c2, c3, cr_g c4 (by omega) (fun j _ _ => h2 _ _ (by omega) (by omega)) (fun j _ _ => h2 _ _ (by omega) (by omega)) ?_ ?_, cr_g c5 (by omega) (fun j _ _ => h2 _ _ (by omega) (by omega)) (fun j _ _ => h2 _ _ (by omega) (by omega)) ?_ ?_⟩
  · intro j j0 j1; exact f2 _ _ (by omega) (fun q => by
      rcases bb with z | z
      · unfold teM at q; omega
      · subst z; unfold teM at q; omega)
  · intro j j0 j1; exact f2 _ _ (by omega) (fun q => by
      rcases bb with z | z
      · unfold teM at q; omega
      · subst z; unfold teM at q; omega)
  · intro j j0 j1; exact f2 _ _ (by omega) (fun q => by
      rcases bb with z | z
      · unfold teM at q; omega
      · subst z; unfold teM at q; omega)
  · intro j j0 j1; exact f2 _ _ (by omega) (fun q => by
      rcases bb with z | z
      · unfold teM at q; omega
      · subst z; unfold teM at q; omega)
/-- a code more leaves the others -/
theorem pb_te {n po di nl nd zl zc zd x0 room k c : Int} {h w h1 w1 : Mem} (n0 : 500 ≤ n) (P : PBk po di nl nd zl zc zd h w) (k0 : 0 ≤ k ∧ k < 256) (cs : (x0 = 295 ∧ room = 256 ∧ c = k ∧ zl ≤ k) ∨ (x0 = 298 ∧ room = 704 ∧ c = 256 + k ∧ zc ≤ k) ∨ (x0 = 301 ∧ room = 520 ∧ c = 512 + k ∧ zd ≤ k)) (f1 : SC n (teC x0 room k) h h1) (f2 : SM (teM c room) w w1) : PBk po di nl nd zl zc zd h1 w1 := by
  obtain ⟨p1, p2, p3, p4, p5, p6, p7, p8, K0, K1, K2⟩ := P
  have e1 := bg_l k0
  have e2 := bg_c k0
  have e3 := bg_d k0
  have hx : ∀ a j : Int, (279 ≤ a ∧ a ≤ 282) ∨ (304 ≤ a ∧ a ≤ 306) → h1 a j = h a j := fun a j q => f1 a j (by omega) (by omega) (fun z => by unfold teC at z; omega)
  have wx : ∀ a j : Int, (a = 17 ∧ (j = 25 ∨ j = 26)) ∨ (28 ≤ a ∧ a ≤ 34) → w1 a j = w a j := fun a j q => f2 a j (by omega) (fun z => by unfold teM at z; omega)
  have ww : ∀ j : Int, j < 12384 → (j < 16 * c ∨ 16 * c + 16 ≤ j) → w1 23 j = w 23 j := fun j q q2 => f2 23 j (by omega) (fun z => by unfold teM at z; omega)
  have wv : ∀ j : Int, j < 379732 → (j < bg c ∨ bg c + room ≤ j) → w1 24 j = w 24 j := fun j q q2 => f2 24 j (by omega) (fun z => by unfold teM at z; omega)
  have hv : ∀ a j : Int, 296 ≤ a → a ≤ 303 → ¬ (a = x0 + 1 ∧ 16 * k ≤ j ∧ j < 16 * k + 16) → ¬ (a = x0 + 2 ∧ room * k ≤ j ∧ j < room * k + room) → h1 a j = h a j := fun a j q0 q1 q2 q3 => f1 a j (by omega) (by omega) (fun z => by unfold teC at z; omega)
  have kk : ∀ i : Int, 0 ≤ i ∧ i < 3 → RK i h w → RK i h1 w1 := fun i i0 q => rk_te n0 (by omega) i0 (Or.inl (by rcases cs with ⟨a1, a2, a3, a4⟩ | ⟨a1, a2, a3, a4⟩ | ⟨a1, a2, a3, a4⟩ <;> subst a1 a2 a3 <;> omega)) q f1 f2
  refine ⟨p1, by rw [wx 17 25 (by omega), wx 17 26 (by omega)]; exact p2, ?_, ?_, ?_, fun i i0 i1 => ?_, fun i i0 i1 => ?_, fun i i0 i1 => ?_, kk 0 (by omega) K0, kk 1 (by omega) K1, kk 2 (by omega) K2⟩
  · intro j j0 j1
    have f1 := bg_l (k := j) (by omega)
    rcases cs with ⟨a1, a2, a3, a4⟩ | ⟨a1, a2, a3, a4⟩ | ⟨a1, a2, a3, a4⟩ <;> subst a1 a2 a3 <;> exact cr_g (p3 j j0 j1) (by omega) (fun i i0 i1 => hv _ _ (by omega) (by omega) (by omega) (by omega)) (fun i i0 i1 => hv _ _ (by omega) (by omega) (by omega) (by omega)) (fun i i0 i1 => ww _ (by omega) (by omega)) (fun i i0 i1 => wv _ (by omega) (by omega))
  · intro j j0 j1
    have f1 := bg_c (k := j) (by omega)
    rcases cs with ⟨a1, a2, a3, a4⟩ | ⟨a1, a2, a3, a4⟩ | ⟨a1, a2, a3, a4⟩ <;> subst a1 a2 a3 <;> exact cr_g (p4 j j0 j1) (by omega) (fun i i0 i1 => hv _ _ (by omega) (by omega) (by omega) (by omega)) (fun i i0 i1 => hv _ _ (by omega) (by omega) (by omega) (by omega)) (fun i i0 i1 => ww _ (by omega) (by omega)) (fun i i0 i1 => wv _ (by omega) (by omega))
  · intro j j0 j1
    have f1 := bg_d (k := j) (by omega)
    rcases cs with ⟨a1, a2, a3, a4⟩ | ⟨a1, a2, a3, a4⟩ | ⟨a1, a2, a3, a4⟩ <;> subst a1 a2 a3 <;> exact cr_g (p5 j j0 j1) (by omega) (fun i i0 i1 => hv _ _ (by omega) (by omega) (by omega) (by omega)) (fun i i0 i1 => hv _ _ (by omega) (by omega) (by omega) (by omega)) (fun i i0 i1 => ww _ (by omega) (by omega)) (fun i i0 i1 => wv _ (by omega) (by omega))
  · rw [hx 279 0 (by omega)] at i1; rw [hx 304 i (by omega), wx 33 i (by omega)]; exact p6 i i0 i1
  · rw [hx 279 2 (by omega)] at i1; rw [hx 305 i (by omega), wx 34 i (by omega)]; exact p7 i i0 i1
  · rw [hx 279 0 (by omega)] at i1; rw [hx 306 i (by omega), wx 32 i (by omega)]; exact p8 i i0 i1
