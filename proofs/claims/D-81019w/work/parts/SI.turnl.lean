set_option maxRecDepth 100000
/-- how much a glyph adds to a stream -/
def cap (k : Int) : Int := if k = 0 then 2 else if k = 1 then 96 else if k = 2 then 256 else if k = 3 then 1027 else if k = 4 then 256 else if k = 6 then 300 else 0
theorem gb_l {al : Int} {h w : Mem} {L L' : Int → List Int} (G : GRD al h w) (b : gbR w (upl L 0 (f2 (w 17 73))) L') : L' 5 = L 5 ∧ ∀ k, ((L' k).length : Int) ≤ (L k).length + cap k := by
  obtain ⟨g1, g2, g3, g4⟩ := G
  have fl : (f2 (w 17 73)).length = 2 := rfl
  have q1 := q25_l (w 17 77)
  rcases b with ⟨b1, b2⟩ | ⟨b1, b2, b3⟩ | ⟨b1, b2, b3⟩
  · subst b2
    rcases g4 with q | ⟨q, O, -, -⟩ | ⟨q, -⟩
    · omega
    · obtain ⟨o1, o2, o3, o4, o5, o6, o7, o8, CD⟩ := O
      have e1 := enL_l (w 70) (w 17 73).toNat
      have e2 := fgL_l (w 73) (w 71) (w 72) (w 17 75).toNat
      have e3 := byL_l (w 71) (w 72) (w 17 75).toNat
      have e4 := slc_l (w 81) 0 (w 17 77).toNat
      have c0 := CD.2.1
      refine ⟨by unfold cdU ouU; rw [upl_n (by omega), upl_n (by omega), upl_n (by omega), upl_n (by omega), upl_n (by omega), upl_n (by omega)], fun k => ?_⟩
      unfold cdU ouU upl cap
      repeat' split
      all_goals (try simp only [List.length_append, fl])
      all_goals omega
    · omega
  · subst b3
    rcases g4 with q | ⟨q, -⟩ | ⟨q, q1', q2', q3', q4, PT, CD, -⟩
    · omega
    · omega
    · have e1 := encP_l (w := w) (w 17 76).toNat (fun i a b => by
        have := (PT.1 i.toNat (by omega)).1.2.2.2.2.1
        rw [show ((i.toNat : Nat) : Int) = i by omega] at this
        rw [this]; exact scl_r _)
      have e4 := slc_l (w 81) 0 (w 17 77).toNat
      have c0 := CD.2.1
      refine ⟨by unfold cdU paU; rw [upl_n (by omega), upl_n (by omega), upl_n (by omega), upl_n (by omega)], fun k => ?_⟩
      unfold cdU paU upl cap
      repeat' split
      all_goals (try simp only [List.length_append, fl])
      all_goals omega
  · subst b3
    rcases g4 with q | ⟨q, -⟩ | ⟨q, q1', q2', q3', q4, PT, CD, -⟩
    · omega
    · omega
    · have e1 := encP_l (w := w) (w 17 76).toNat (fun i a b => by
        have := (PT.1 i.toNat (by omega)).1.2.2.2.2.1
        rw [show ((i.toNat : Nat) : Int) = i by omega] at this
        rw [this]; exact scl_r _)
      refine ⟨by unfold paU; rw [upl_n (by omega), upl_n (by omega)], fun k => ?_⟩
      unfold paU upl cap
      repeat' split
      all_goals (try simp only [List.length_append, fl])
      all_goals omega
theorem GRD_ov {al : Int} {h w : Mem} (G : GRD al h w) : h 366 8 = w 17 78 ∧ (w 17 78 = 0 ∨ w 17 78 = 1) := by
  obtain ⟨g1, g2, g3, g4⟩ := G
  rcases g4 with ⟨-, -, -, -, -, -, -, a, b, -⟩ | ⟨q, O, -, -⟩ | ⟨-, -, -, -, -, -, -, -, a, b, -⟩
  · omega
  · obtain ⟨o1, o2, o3, o4, o5, o6, o7, o8, CD⟩ := O; omega
  · omega
theorem byt_1 (v : Int) : byt [i2b v] := fun x hx => by rw [List.mem_singleton.1 hx]; exact i2b_r v
theorem byt_q (v : Int) : byt (q25 v) := by
  unfold q25
  repeat' split
  all_goals
    intro x hx
    simp at hx
    rcases hx with rfl | rfl | rfl | rfl <;> exact i2b_r _
theorem byt_ptB (a b : Int) : byt (ptB a b) := by
  unfold ptB
  repeat' split
  all_goals
    intro x hx
    simp at hx
    rcases hx with rfl | rfl | rfl | rfl | rfl <;> exact i2b_r _
theorem byt_en (E : Int → Int) : ∀ k : Nat, byt (enL E k) := by
  intro k
  induction k with
  | zero => exact byt_0
  | succ k ih => exact byt_a ih (byt_q _)
theorem byt_fg (on X Y : Int → Int) : ∀ k : Nat, byt (fgL on X Y k) := by
  intro k
  induction k with
  | zero => exact byt_0
  | succ k ih => exact byt_a ih (byt_1 _)
theorem byt_by (X Y : Int → Int) : ∀ k : Nat, byt (byL X Y k) := by
  intro k
  induction k with
  | zero => exact byt_0
  | succ k ih => exact byt_a ih (byt_ptB _ _)
theorem byt_bx (f : Int → Int) : ∀ k : Nat, byt (bxL f k) := by
  intro k
  induction k with
  | zero => exact byt_0
  | succ k ih => exact byt_a ih (f2_r _)
theorem byt_up {L : Int → List Int} {k : Int} {N : List Int} (B : ∀ k, byt (L k)) (b : byt N) : ∀ i, byt (upl L k N i) := by
  intro i
  unfold upl
  split
  · exact byt_a (B i) b
  · exact B i
theorem byt_b8 {B : List Int} {g : Int} (b : byt B) : byt (bst8 B g) := by
  intro x hx
  rcases List.mem_or_eq_of_mem_set hx with q | q
  · exact b x q
  · rw [q]; exact i2b_r _
theorem gb_b {al : Int} {h w : Mem} {L L' : Int → List Int} (G : GRD al h w) (b : gbR w (upl L 0 (f2 (w 17 73))) L') (B : ∀ k, byt (L k)) : ∀ k, byt (L' k) := by
  have cd : w 17 73 ≠ 0 → byt (slc (w 81) 0 (w 17 77).toNat) := by
    intro nz
    obtain ⟨g1, g2, g3, g4⟩ := G
    have C : CDR h w := by
      rcases g4 with ⟨-, -, -, -, -, C, -⟩ | ⟨q, ⟨-, -, -, -, -, -, -, -, C⟩, -⟩ | ⟨-, -, -, -, -, -, C, -⟩ <;> exact C
    exact byt_s (fun i hi => by
      have := C.2.2 (0 + i) (by omega) (by have := C.2.1; omega)
      rw [← this.1]; exact this.2)
  have B0 := byt_up (k := 0) B (f2_r (w 17 73))
  rcases b with ⟨b1, b2⟩ | ⟨b1, b2, b3⟩ | ⟨b1, b2, b3⟩
  · subst b2
    exact byt_up (byt_up (byt_up (byt_up (byt_up B0 (byt_en _ _)) (byt_fg _ _ _ _)) (byt_by _ _ _)) (byt_q _)) (cd (by omega))
  · subst b3
    exact byt_up (byt_up (byt_up B0 (byt_eP _ _)) (byt_q _)) (cd (by omega))
  · subst b3
    exact byt_up B0 (byt_eP _ _)
def trnC (a j : Int) : Prop := glC a j ∨ tnC a j ∨ a = 387
def trnM (a j : Int) : Prop := glM a j ∨ tnM a j ∨ a = 111
/-- the streams after g glyphs, on both sides -/
def TRN (g bits : Int) (L : Int → List Int) (Bs X : List Int) (N : Nat) (x4 : Int) (h w : Mem) : Prop := TSH L Bs X h ∧ TSM L w ∧ L 5 = Bs ++ X ∧ (Bs.length : Int) = bits ∧ ((X.length : Int) ≤ 8 * g) ∧ (∀ k, 0 ≤ k → k < 7 → k ≠ 5 → ((L k).length : Int) ≤ cap k * g) ∧ OVN (h 387) g N ∧ ((x4 = 0 ∧ ∀ i, 0 ≤ i → i < g → h 387 i = 0) ∨ (x4 = 1 ∧ ∃ i, 0 ≤ i ∧ i < g ∧ h 387 i ≠ 0)) ∧ (∀ i, 0 ≤ i → i < g → h 387 i = 0 ∨ h 387 i = 1) ∧ ∀ k, byt (L k)
/-- one more glyph -/
theorem TRN_s {g bits x4 v : Int} {L L' : Int → List Int} {Bs X Bs' X' : List Int} {N : Nat} {h w h1 w1 : Mem} (T0 : TRN g bits L Bs X N x4 h w) (g0 : 0 ≤ g ∧ g < 64) (H : TSH L' Bs' X' h1) (W : TSM L' w1) (e5 : L' 5 = Bs' ++ X') (lb : Bs'.length = Bs.length) (lx : X'.length ≤ X.length + 8) (ll : ∀ k, 0 ≤ k → k < 7 → k ≠ 5 → ((L' k).length : Int) ≤ (L k).length + cap k) (e7 : ∀ i, 0 ≤ i → i < g → h1 387 i = h 387 i) (v0 : v = 0 ∨ v = 1) (ev : h1 387 g = v) (bb : ∀ k, byt (L' k)) : TRN (g + 1) bits L' Bs' X' (if v = 0 then N else N ||| 2 ^ g.toNat) (ior x4 v) h1 w1 := by
  obtain ⟨t1, t2, t3, t4, t5, t6, t7, t8, t9, t10⟩ := T0
  have O1 := ovn_c (ov' := h1 387) t7 e7
  refine ⟨H, W, e5, by omega, by omega, fun k a b c => ?_, ?_, ?_, fun i a b => ?_, bb⟩
  · have := ll k a b c
    have := t6 k a b c
    rw [Int.mul_add, Int.mul_one]; omega
  · by_cases z : v = 0
    · rw [if_pos z]; exact ovn_n O1 g0.1 (ev.trans z)
    · rw [if_neg z]; exact ovn_y O1 g0 (by rw [ev]; exact z)
  · have i00 : ior 0 0 = 0 ∧ ior 0 1 = 1 ∧ ior 1 0 = 1 ∧ ior 1 1 = 1 := by decide +kernel
    rcases v0 with z | z <;> subst z
    · rcases t8 with ⟨a, b⟩ | ⟨a, i, b, c, d⟩
      · refine Or.inl ⟨by rw [a]; exact i00.1, fun i i0 i1 => ?_⟩
        by_cases e : i = g
        · rw [e]; exact ev
        · rw [e7 i i0 (by omega)]; exact b i i0 (by omega)
      · exact Or.inr ⟨by rw [a]; exact i00.2.2.1, i, b, by omega, by rw [e7 i b c]; exact d⟩
    · refine Or.inr ⟨?_, g, g0.1, by omega, by rw [ev]; omega⟩
      rcases t8 with ⟨a, -⟩ | ⟨a, -⟩ <;> rw [a]
      · exact i00.2.1
      · exact i00.2.2.2
  · by_cases e : i = g
    · rw [e, ev]; exact v0
    · rw [e7 i a (by omega)]; exact t9 i a (by omega)
theorem TSH_t {L : Int → List Int} {B X : List Int} {h h1 : Mem} (S : TSH L B X h) (e : ∀ a j, (383 ≤ a ∧ a ≤ 386) ∨ (404 ≤ a ∧ a ≤ 417) → h1 a j = h a j) : TSH L B X h1 :=
  ⟨fun k a b => by rw [e _ _ (by omega)]; exact S.1 k a b, fun k a b c => BG_t (S.2.1 k a b c) (fun a j q => e a j (by omega)), BG_t S.2.2.1 (fun a j q => e a j (by omega)), BG_t S.2.2.2 (fun a j q => e a j (by omega))⟩
theorem TSM_t {L : Int → List Int} {w w1 : Mem} (S : TSM L w) (e : ∀ a j, a = 109 ∨ a = 110 → w1 a j = w a j) : TSM L w1 := fun k a b => MGS_t (S k a b) (fun a j q => e a j (by unfold msF at q; omega))
theorem TSM_c {L L' : Int → List Int} {w : Mem} (S : TSM L w) (e : ∀ k, 0 ≤ k → k < 7 → L' k = L k) : TSM L' w := fun k a b => by rw [e k a b]; exact S k a b
