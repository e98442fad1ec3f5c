set_option maxRecDepth 100000
/-- more bodies may be made -/
theorem cg_c {β0 β : Int → Int} {D : Int → Prop} {c1 c2 c1' c2' : Int} {h0 w0 h w : Mem} (C : CHG β0 β D c1 c2 h0 w0 h w) (a : c1 ≤ c1') (b : c2 ≤ c2') : CHG β0 β D c1' c2' h0 w0 h w := by
  obtain ⟨R, K, Bd, FTs, ⟨l1, l2, l3, l4, l5⟩, P, O, tg⟩ := C
  exact ⟨R, K, Bd, FTs, ⟨l1, l2, l3, by omega, by omega⟩, P, O, tg⟩
/-- one font loses its tables -/
theorem TG_0 {w w1 : Mem} {p : Int} (T : TG w) (e0 : w1 55 p = 1 → w1 57 p ≤ 0) (e : ∀ q : Int, 0 ≤ q → q < 4 → q ≠ p → w1 55 q = w 55 q ∧ w1 57 q = w 57 q) (e2 : ∀ j : Int, 0 ≤ j → j < 64 → w1 58 j = w 58 j ∧ w1 59 j = w 59 j) : TG w1 := by
  intro q q' i j q0 q0' hq hq' i0 j0 eb
  by_cases a : q = p
  · rw [a] at hq i0; have := e0 hq; omega
  · by_cases b : q' = p
    · rw [b] at hq' j0; have := e0 hq'; omega
    · rw [(e q q0.1 q0.2 a).1] at hq
      rw [(e q' q0'.1 q0'.2 b).1] at hq'
      rw [(e q q0.1 q0.2 a).2] at i0
      rw [(e q' q0'.1 q0'.2 b).2] at j0
      rw [(e2 _ (by omega) (by omega)).2, (e2 _ (by omega) (by omega)).2] at eb
      rw [(e2 _ (by omega) (by omega)).1, (e2 _ (by omega) (by omega)).1]
      exact T q q' i j q0 q0' hq hq' i0 j0 eb
/-- the house's memory, fonts p + lo to p + hi - 1 being begun with flavors fl -/
def bgh (p lo hi : Int) (fl : Int → Int) (h : Mem) : Mem := fun a j => if (a - 252) % 6 = 0 ∧ lo ≤ (a - 252) / 6 - p ∧ (a - 252) / 6 - p < hi ∧ 0 ≤ j ∧ j < 3 then (if j = 0 then 1 else if j = 1 then fl ((a - 252) / 6 - p) else 0) else h a j
theorem bg_o {p lo hi a j : Int} {fl : Int → Int} {h : Mem} (q : ¬ ((a - 252) % 6 = 0 ∧ lo ≤ (a - 252) / 6 - p ∧ (a - 252) / 6 - p < hi ∧ 0 ≤ j ∧ j < 3)) : bgh p lo hi fl h a j = h a j := if_neg q
theorem bg_n {p lo hi a j : Int} {fl : Int → Int} {h : Mem} (p0 : 0 ≤ p + lo ∧ p + hi ≤ 4) (q : a < 252 ∨ 275 < a ∨ (a - 252) % 6 ≠ 0) : bgh p lo hi fl h a j = h a j := bg_o (by omega)
theorem bg_i {p lo hi f : Int} {fl : Int → Int} {h : Mem} (f0 : lo ≤ f ∧ f < hi) : bgh p lo hi fl h (252 + 6 * (p + f)) 0 = 1 ∧ bgh p lo hi fl h (252 + 6 * (p + f)) 1 = fl f ∧ bgh p lo hi fl h (252 + 6 * (p + f)) 2 = 0 := by
  have e : (252 + 6 * (p + f) - 252) / 6 - p = f := by omega
  unfold bgh
  rw [if_pos (by omega), if_pos rfl, if_pos (by omega), if_neg (by omega), if_pos rfl, if_pos (by omega), if_neg (by omega), if_neg (by omega), e]
  exact ⟨rfl, rfl, rfl⟩
theorem bg_e {p lo : Int} {fl : Int → Int} {h : Mem} : bgh p lo lo fl h = h := by
  funext a j
  exact bg_o (by omega)
/-- the house begins one font more -/
theorem bg_s {p lo hi : Int} {fl : Int → Int} {h : Mem} (l : lo < hi) : bgh p (lo + 1) hi fl (st (st (st h (252 + 6 * (p + lo)) 0 1) (252 + 6 * (p + lo)) 1 (fl lo)) (252 + 6 * (p + lo)) 2 0) = bgh p lo hi fl h := by
  funext a j
  by_cases e : a = 252 + 6 * (p + lo) ∧ 0 ≤ j ∧ j < 3
  · have e1 : (a - 252) / 6 - p = lo := by omega
    rw [bg_o (by omega)]
    unfold bgh
    rw [if_pos (by omega), e1]
    rw [st_ap, st_ap, st_ap]
    by_cases j0 : j = 0
    · rw [if_neg (by omega), if_neg (by omega), if_pos ⟨e.1, j0⟩, if_pos j0]
    · by_cases j1 : j = 1
      · rw [if_neg (by omega), if_pos ⟨e.1, j1⟩, if_neg j0, if_pos j1]
      · rw [if_pos (by omega), if_neg j0, if_neg j1]
  · by_cases q : (a - 252) % 6 = 0 ∧ lo + 1 ≤ (a - 252) / 6 - p ∧ (a - 252) / 6 - p < hi ∧ 0 ≤ j ∧ j < 3
    · unfold bgh
      rw [if_pos q, if_pos (show (a - 252) % 6 = 0 ∧ lo ≤ (a - 252) / 6 - p ∧ (a - 252) / 6 - p < hi ∧ 0 ≤ j ∧ j < 3 by omega)]
    · rw [bg_o q, bg_o (by omega), st_other (by omega), st_other (by omega), st_other (by omega)]
/-- a change elsewhere -/
theorem bg_z {p lo hi : Int} {fl : Int → Int} {h h1 : Mem} {P : Int → Int → Prop} (F : Fz P h h1) : Fz P (bgh p lo hi fl h) (bgh p lo hi fl h1) := fun a j g => by
  by_cases q : (a - 252) % 6 = 0 ∧ lo ≤ (a - 252) / 6 - p ∧ (a - 252) / 6 - p < hi ∧ 0 ≤ j ∧ j < 3
  · unfold bgh; rw [if_pos q, if_pos q]
  · rw [bg_o q, bg_o q]; exact F a j g
section
variable {A B : Qt → Prop} {Φ : Out → Int → Mem → Out → Int → Mem → Prop} {KL KM : Qt → Qt} {n m : Int} {h w : Mem}
/-- the model keeps, the house has kept before -/
theorem m_keepC {β : Int → Int} {h0 : Mem} (R : RSB β h0 w) (kp : ∀ p : Int, 0 ≤ p → p < 4 → KPf (252 + 6 * p) (255 + 6 * p) h0 h) (F : ∀ a j : Int, 24 ≤ a → a ≤ 275 → ¬ olC a j → h a j = h0 a j) (fin : ∀ w1 : Mem, CHG β β (bsy h0) 0 0 h0 w h w1 → Fz kpM w w1 → J2 A (fun Q => KM Q (.inl none) m w1) Φ) : J2 A (fun Q => T gM 313 [vR 33 17] m w (KM Q)) Φ := by
  obtain ⟨K, Bd, FTs, b01, us, m1, m2, sm, tg⟩ := id R
  refine m_keep FTs Bd ?_
  intro w1 k1 k2 k3 G
  refine fin w1 ⟨R, SKC_t K (fun a j x y => F _ _ (by omega) (by omega) (by unfold olC; omega)), ⟨fun k q => ?_, Bd.2⟩, fun p a b => ?_, ⟨fun k q => ?_, fun k a b => ?_, fun x a b => ?_, ?_, ?_⟩, ⟨kp, k1, k2⟩, fun k q => ?_, TG_t tg (fun p a b => ⟨G _ _ (by unfold kpM; omega), G _ _ (by unfold kpM; omega)⟩) (fun j a b => ⟨G _ _ (by unfold kpM; omega), G _ _ (by unfold kpM; omega)⟩)⟩ G
  · obtain ⟨b1, b2, b3, b4, b5⟩ := Bd.1 k q
    have e : h (28 + 2 * k) 1 = h0 (28 + 2 * k) 1 := F _ _ (by omega) (by omega) (by unfold olC; omega)
    refine ⟨b1, b2, by rw [e]; exact b3, by rw [e, G 53 _ (by unfold kpM; omega)]; exact b4, fun i i0 i1 => ?_⟩
    rw [e] at i1
    rw [F (29 + 2 * k) i (by omega) (by omega) (by unfold olC; omega), G 52 _ (by unfold kpM; omega)]
    exact b5 i i0 i1
  · exact FNT_t (FTs p a b) (fun j _ _ => F _ _ (by rw [FO_4 b]; omega) (by rw [FO_4 b]; omega) (by rw [FO_4 b]; unfold olC; omega)) (fun i _ _ => ⟨F _ _ (by rw [FO_4 b]; omega) (by rw [FO_4 b]; omega) (by rw [FO_4 b]; unfold olC; omega), F _ _ (by rw [FO_4 b]; omega) (by rw [FO_4 b]; omega) (by rw [FO_4 b]; unfold olC; omega)⟩) ⟨G _ _ (by unfold kpM; omega), G _ _ (by unfold kpM; omega), G _ _ (by unfold kpM; omega)⟩ (fun i _ _ => ⟨G _ _ (by unfold kpM; omega), G _ _ (by unfold kpM; omega)⟩)
  · have b := (Bd.1 k q).2.1
    have q' := q
    obtain ⟨q1, q2, q3⟩ := q'
    rw [F _ _ (by omega) (by omega) (by unfold olC; omega), k3 _ b.1 b.2]
    exact ⟨q3, us k q⟩
  · rw [F _ _ (by omega) (by omega) (by unfold olC; omega)]; exact b01 k a b
  · rw [k3 x a b]; exact uI_r _ _ _
  · rw [smi_c (g := fun k => h0 (28 + 2 * k) 3) (fun k a b => F _ _ (by omega) (by omega) (by unfold olC; omega)), sm]; omega
  · rw [smi_c (g := uI w 64) (fun k a b => k3 k a b)]; omega
  · have b := (Bd.1 k q)
    exact ⟨⟨q, rfl⟩, F _ _ (by omega) (by omega) (by unfold olC; omega), fun i => F _ _ (by omega) (by omega) (by unfold olC; omega), G _ _ (by unfold kpM; omega), fun i _ _ => G _ _ (by unfold kpM; omega)⟩
end
