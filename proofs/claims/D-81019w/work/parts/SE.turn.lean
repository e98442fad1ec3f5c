set_option maxRecDepth 100000
/-- stream k gets N behind it -/
def upl (L : Int → List Int) (k : Int) (N : List Int) : Int → List Int := fun i => if i = k then L i ++ N else L i
theorem upl_n {L : Int → List Int} {k i : Int} {N : List Int} (q : i ≠ k) : upl L k N i = L i := if_neg q
theorem upl_e {L : Int → List Int} {k : Int} {N : List Int} : upl L k N k = L k ++ N := if_pos rfl
/-- the house's streams (B the bits of boxes, X the boxes) -/
def TSH (L : Int → List Int) (B X : List Int) (h : Mem) : Prop := SKT h ∧ (∀ k, 0 ≤ k → k < 7 → k ≠ 5 → BG h (404 + 2 * k) 16000 (L k)) ∧ BG h 414 16000 B ∧ BG h 385 512 X
/-- the model's -/
def TSM (L : Int → List Int) (w : Mem) : Prop := ∀ k, 0 ≤ k → k < 7 → MGS w k (L k)
def tnC (a j : Int) : Prop := (a = 385 ∧ (j = 1 ∨ j = 2)) ∨ a = 386 ∨ (404 ≤ a ∧ a ≤ 417)
def tnM (a j : Int) : Prop := a = 109 ∨ a = 110
theorem TSH_s {L : Int → List Int} {B X N : List Int} {h h1 : Mem} {k : Int} (S : TSH L B X h) (k0 : 0 ≤ k ∧ k < 7 ∧ k ≠ 5) (B1 : BG h1 (404 + 2 * k) 16000 (L k ++ N)) (F : Fz (bgF (404 + 2 * k)) h h1) : TSH (upl L k N) B X h1 := by
  obtain ⟨S1, S2, S3, S4⟩ := S
  refine ⟨fun i a b => by rw [F _ _ (by unfold bgF; omega)]; exact S1 i a b, fun i a b c => ?_, BG_t S3 (fun a j q => F a j (by unfold bgF; omega)), BG_t S4 (fun a j q => F a j (by unfold bgF; omega))⟩
  by_cases e : i = k
  · rw [e, upl_e]; exact B1
  · rw [upl_n e]; exact BG_t (S2 i a b c) (fun a j q => F a j (by unfold bgF; omega))
theorem TSM_s {L : Int → List Int} {N : List Int} {w w1 : Mem} {k : Int} (S : TSM L w) (k0 : 0 ≤ k ∧ k < 7) (B1 : MGS w1 k (L k ++ N)) (F : Fz (msF k) w w1) : TSM (upl L k N) w1 := by
  intro i a b
  by_cases e : i = k
  · rw [e, upl_e]; exact B1
  · rw [upl_n e]; exact MGS_t (S i a b) (fun a j q => F a j (by unfold msF at q ⊢; omega))
theorem bg_tn {h h1 : Mem} {k : Int} (k0 : 0 ≤ k ∧ k < 7) (F : Fz (bgF (404 + 2 * k)) h h1) : Fz tnC h h1 := Fz_mo F (fun a j q => by unfold bgF at q; unfold tnC; omega)
theorem ms_tn {w w1 : Mem} {k : Int} (F : Fz (msF k) w w1) : Fz tnM w w1 := Fz_mo F (fun a j q => by unfold msF at q; unfold tnM; omega)
theorem bg_set {h : Mem} {o c j v : Int} {L : List Int} (B : BG h o c L) (l : (L.length : Int) ≤ c) (j0 : 0 ≤ j ∧ j < L.length) : BG (st h (o + 1) j v) o c (L.set j.toNat v) := by
  rcases B with ⟨B1, B2, B3, B4⟩ | ⟨B1, -⟩
  · refine Or.inl ⟨by rw [List.length_set]; exact B1, by rw [st_na (by omega)]; exact B2, by rw [st_na (by omega), List.length_set]; exact B3, fun i hi => ?_⟩
    rw [List.length_set] at hi
    rw [List.getD_eq_getElem?_getD, List.getElem?_set]
    by_cases e : j.toNat = i
    · rw [if_pos e, if_pos (show j.toNat < L.length by omega), show (i : Int) = j by omega, st_eq]; rfl
    · rw [if_neg e, st_nj (by omega), ← List.getD_eq_getElem?_getD]; exact B4 i hi
  · omega
theorem mgs_set {w : Mem} {k j v : Int} {L : List Int} (M : MGS w k L) (j0 : 0 ≤ j ∧ j < L.length) : MGS (st w 109 (20000 * k + j) v) k (L.set j.toNat v) := by
  refine ⟨by rw [st_na (by omega), List.length_set]; exact M.1, fun i hi h2 => ?_⟩
  rw [List.length_set] at hi
  rw [List.getD_eq_getElem?_getD, List.getElem?_set]
  by_cases e : j.toNat = i
  · rw [if_pos e, if_pos (show j.toNat < L.length by omega), show (i : Int) = j by omega, st_eq]; rfl
  · rw [if_neg e, st_nj (by omega), ← List.getD_eq_getElem?_getD]; exact M.2 i hi h2
/-- the bit of glyph g is set -/
def bst8 (B : List Int) (g : Int) : List Int := B.set (g / 8).toNat (i2b (ior (B.getD (g / 8).toNat 0) (i2b (isr 128 (g % 8)))))
def bxL (f : Int → Int) : Nat → List Int
  | 0 => []
  | k + 1 => bxL f k ++ f2 (f k)
theorem bxL_l (f : Int → Int) : ∀ k : Nat, (bxL f k).length = 2 * k := by
  intro k
  induction k with
  | zero => rfl
  | succ k ih => rw [bxL, List.length_append, ih]; show 2 * k + 2 = _; omega
theorem bxL_c {f g : Int → Int} : ∀ k : Nat, (∀ i : Int, 0 ≤ i → i < k → f i = g i) → bxL f k = bxL g k := by
  intro k
  induction k with
  | zero => intro _; rfl
  | succ k ih => intro e; rw [bxL, bxL, ih (fun i a b => e i a (by omega)), e k (by omega) (by omega)]
theorem dfv_c {f f' g g' : Int → Int} : ∀ k : Nat, (∀ i : Int, 0 ≤ i → i < k → f i = f' i) → (∀ i : Int, 0 ≤ i → i < k → g i = g' i) → dfv f g k = dfv f' g' k := by
  intro k
  induction k with
  | zero => intro _ _; rfl
  | succ k ih => intro e e'; rw [dfv, dfv, ih (fun i a b => e i a (by omega)) (fun i a b => e' i a (by omega)), e k (by omega) (by omega), e' k (by omega) (by omega)]
/-- the code goes to streams 3 and 6 -/
def cdU (w : Mem) (L : Int → List Int) : Int → List Int := upl (upl L 3 (q25 (w 17 77))) 6 (slc (w 81) 0 (w 17 77).toNat)
/-- an outline goes to streams 1, 2, 3 -/
def ouU (w : Mem) (L : Int → List Int) : Int → List Int := upl (upl (upl L 1 (enL (w 70) (w 17 73).toNat)) 2 (fgL (w 73) (w 71) (w 72) (w 17 75).toNat)) 3 (byL (w 71) (w 72) (w 17 75).toNat)
/-- parts go to stream 4 -/
def paU (w : Mem) (L : Int → List Int) : Int → List Int := upl L 4 (encP w (w 17 76).toNat)
/-- streams after a glyph's points or parts, and code -/
def gbR (w : Mem) (L L' : Int → List Int) : Prop := (0 < w 17 73 ∧ L' = cdU w (ouU w L)) ∨ (w 17 73 = -1 ∧ cdm (w 75) (w 17 76).toNat ∧ L' = cdU w (paU w L)) ∨ (w 17 73 = -1 ∧ ¬ cdm (w 75) (w 17 76).toNat ∧ L' = paU w L)
/-- what the house does behind the box -/
def kdT (K : Qt) (n : Int) (h : Mem) : Prop := ¬h 383 3 = 0 ∧ T gC 127 [vR 3 (h 383 3), vI (h 379 1)] n h (kV (thr K) fun n h => ¬h 383 6 = 0 ∧ T gC 115 [vR 3 (h 383 6), vR 2 379, vI 0, vI (h 379 1)] n h (kV (thr K) fun n h => K (.inl none) n h))
def phT (K : Qt) (n : Int) (h : Mem) : Prop := if h 366 0 < 0 then T gC 164 [vR 23 366] n h (kI (thr K) fun a n h => if a = 0 then K (.inl none) n h else kdT K n h) else kdT K n h
def ppT (K : Qt) (n : Int) (h : Mem) : Prop := if h 366 0 < 0 then ¬h 383 4 = 0 ∧ T gC 115 [vR 3 (h 383 4), vR 2 377, vI 0, vI (h 377 1)] n h (kV (thr K) fun n h => phT K n h) else T gC 181 [vR 25 382, vR 22 366] n h (kV (thr K) fun n h => phT K n h)
theorem gz366 : GZ 366 := by unfold GZ; exact ⟨by decide +kernel, by decide +kernel, by decide +kernel, by decide +kernel, by decide +kernel, by decide +kernel, by decide +kernel, by decide +kernel, by decide +kernel⟩
section
variable {A B : Qt → Prop} {Φ : Out → Int → Mem → Out → Int → Mem → Prop} {KL KM : Qt → Qt} {n m : Int} {h w : Mem} {al : Int}
theorem c_kdT {L : Int → List Int} {Bs X : List Int} (S : TSH L Bs X h) (C : CDR h w) (fin : ∀ h1 : Mem, TSH (cdU w L) Bs X h1 → Fz tnC h h1 → J2 (fun Q => KL Q (.inl none) n h1) B Φ) : J2 (fun Q => kdT (KL Q) n h) B Φ := by
  obtain ⟨c1, c2, c3⟩ := C
  obtain ⟨h1, e1, B1, F1⟩ := c_127 (n := n) (v := w 17 77) (o := 410) (zstr (k := 3) (by omega)) (by omega) (by omega) (by omega) (S.2.1 3 (by omega) (by omega) (by omega))
  have S1 := TSH_s (k := 3) S (by omega) B1 F1
  obtain ⟨h2, e2, B2, F2⟩ := c_appG (n := n) (p := 379) (f := 0) (k := w 17 77) (o := 416) (zstr (k := 6) (by omega)) (by omega) (by omega) (by omega) (by omega) (by omega) (by omega) (by rw [show ((gC.1 (379 + 1)).2 : Int) = 300 by decide +kernel]; omega) (S1.2.1 6 (by omega) (by omega) (by omega))
  have S2 := TSH_s (k := 6) S1 (by omega) B2 F2
  have f3 : ∀ j, h1 380 j = h 380 j := fun j => F1 _ _ (by unfold bgF; omega)
  rw [show slc (h1 (379 + 1)) 0 (w 17 77).toNat = slc (w 81) 0 (w 17 77).toNat from slc_c (fun i hi => by rw [show (379 : Int) + 1 = 380 from rfl, f3]; exact (c3 _ (by omega) (by omega)).1)] at S2
  unfold kdT
  rw [S.1 3 (by omega) (by omega), c1]
  refine J_andL (by omega) (J_LV e1 ?_)
  rw [S1.1 6 (by omega) (by omega), F1 379 1 (by unfold bgF; omega), c1]
  refine J_andL (by omega) (J_LV e2 ?_)
  exact fin h2 S2 (Fz_tr (bg_tn (k := 3) (by omega) F1) (bg_tn (k := 6) (by omega) F2))
theorem GRD_h {h1 : Mem} (G : GRD al h w) (F : Fz tnC h h1) : GRD al h1 w := GRD_t G (Fz_mo F (fun a j q => by unfold tnC at q; omega)) Fz_0
theorem CDR_h {h1 : Mem} (G : CDR h w) (F : Fz tnC h h1) : CDR h1 w := ⟨by rw [F _ _ (by unfold tnC; omega)]; exact G.1, G.2.1, fun i a b => by rw [F _ _ (by unfold tnC; omega)]; exact G.2.2 i a b⟩
/-- points or parts, and the code -/
theorem c_ppT {L : Int → List Int} {Bs X : List Int} (S : TSH L Bs X h) (G : GRD al h w) (nz : w 17 73 ≠ 0) (fin : ∀ (h1 : Mem) (L' : Int → List Int), gbR w L L' → TSH L' Bs X h1 → Fz tnC h h1 → J2 (fun Q => KL Q (.inl none) n h1) B Φ) : J2 (fun Q => ppT (KL Q) n h) B Φ := by
  obtain ⟨g1, g2, g3, g4⟩ := id G
  unfold ppT
  rw [g1]
  rcases g4 with q | ⟨q, O, -, -⟩ | ⟨q, q1, q2, q3, q4, PT, CD, -⟩
  · omega
  · obtain ⟨o1, o2, o3, o4, o5, o6, o7, o8, CD⟩ := O
    refine J_negL (by omega) ?_
    refine c_181 (c := w 17 73) (cn := w 17 75) (KL := fun Q => kV (thr (KL Q)) fun n h => phT (KL Q) n h) S.1 (by omega) (by omega) g1 o2 ?_ (fun i a b => ?_) (fun i a b => ?_) (S.2.1 1 (by omega) (by omega) (by omega)) (S.2.1 2 (by omega) (by omega) (by omega)) (S.2.1 3 (by omega) (by omega) (by omega)) ?_
    · intro i a b
      have z := o7.1 i a b
      rw [z.1]
      by_cases e : i = 0
      · rw [if_pos e]; omega
      · rw [if_neg e, (o7.1 (i - 1) (by omega) (by omega)).1]
        have := z.2.2 (by omega)
        omega
    · rw [(o4 i a b).1]; exact (o4 i a b).2
    · rw [(o5 i a b).1]; exact (o5 i a b).2
    intro h1 B1 B2 B3 F1
    have S1 : TSH (ouU w L) Bs X h1 := by
      rw [enL_c (E' := w 70) _ (fun i a b => (o7.1 i a (by omega)).1)] at B1
      rw [fgL_c (on' := w 73) (X' := w 71) (Y' := w 72) _ (fun i a b => (o6 i a (by omega)).1) (fun i a b => (o4 i a (by omega)).1) (fun i a b => (o5 i a (by omega)).1)] at B2
      rw [byL_c (X' := w 71) (Y' := w 72) _ (fun i a b => (o4 i a (by omega)).1) (fun i a b => (o5 i a (by omega)).1)] at B3
      refine ⟨fun k a b => by rw [F1 _ _ (by unfold b123 b23 bgF; omega)]; exact S.1 k a b, fun k a b c => ?_, BG_t S.2.2.1 (fun a j q => F1 a j (by unfold b123 b23 bgF; omega)), BG_t S.2.2.2 (fun a j q => F1 a j (by unfold b123 b23 bgF; omega))⟩
      unfold ouU
      by_cases e3 : k = 3
      · rw [e3, upl_e, upl_n (by omega), upl_n (by omega)]; exact B3
      rw [upl_n e3]
      by_cases e2 : k = 2
      · rw [e2, upl_e, upl_n (by omega)]; exact B2
      rw [upl_n e2]
      by_cases e1 : k = 1
      · rw [e1, upl_e]; exact B1
      rw [upl_n e1]
      exact BG_t (S.2.1 k a b c) (fun a j q => F1 a j (by unfold b123 b23 bgF; omega))
    have FT1 : Fz tnC h h1 := Fz_mo F1 (fun a j q => by unfold b123 b23 bgF at q; unfold tnC; omega)
    show J2 (fun Q => phT (KL Q) n h1) B Φ
    unfold phT
    refine J_negL (by rw [F1 _ _ (by unfold b123 b23 bgF; omega), g1]; omega) ?_
    refine c_kdT (w := w) S1 (CDR_h CD FT1) ?_
    intro h2 S2 F2
    exact fin h2 _ (Or.inl ⟨q, rfl⟩) S2 (Fz_tr FT1 F2)
  · refine J_posL (by omega) ?_
    rw [S.1 4 (by omega) (by omega)]
    refine J_andL (by omega) ?_
    have pr := pqo_r (w 75) (w 17 76).toNat
    obtain ⟨h1, e1, B1, F1⟩ := c_appG (n := n) (p := 377) (f := 0) (k := h 377 1) (o := 412) (zstr (k := 4) (by omega)) (by omega) (by omega) (by omega) (by omega) (by omega) (by rw [PT.2.1]; omega) (by rw [PT.2.1, show ((gC.1 (377 + 1)).2 : Int) = 256 by decide +kernel]; omega) (S.2.1 4 (by omega) (by omega) (by omega))
    rw [show slc (h (377 + 1)) 0 (h 377 1).toNat = encP w (w 17 76).toNat from raw_P PT (by omega)] at B1
    have S1 : TSH (paU w L) Bs X h1 := TSH_s (k := 4) S (by omega) B1 F1
    have FT1 := bg_tn (k := 4) (by omega) F1
    refine J_LV e1 ?_
    unfold phT
    refine J_posL (by rw [F1 _ _ (by unfold bgF; omega), g1]; omega) ?_
    obtain ⟨v, hv, ev⟩ := c_hasCode (n := n) (h := h1) (w := w) (c := w 17 76) (by omega) (by rw [F1 _ _ (by unfold bgF; omega)]; exact q3) (by rw [F1 _ _ (by unfold bgF; omega), g1]; omega) (fun i a b => by
      rw [F1 _ _ (by unfold bgF; omega)]
      have := (PT.1 i.toNat (by omega)).1.1.1
      rw [show ((i.toNat : Nat) : Int) = i by omega] at this
      exact this)
    refine J_LI ev ?_
    rcases hv with ⟨e, hc⟩ | ⟨e, hc⟩ <;> subst e
    · refine J_negL (by omega) ?_
      refine c_kdT (w := w) S1 (CDR_h CD FT1) ?_
      intro h2 S2 F2
      exact fin h2 _ (Or.inr (Or.inl ⟨q, hc, rfl⟩)) S2 (Fz_tr FT1 F2)
    · refine J_posL rfl ?_
      exact fin h1 _ (Or.inr (Or.inr ⟨q, hc, rfl⟩)) S1 FT1
end
