set_option maxRecDepth 100000
/-- what was kept -/
def KPT (h0 w0 h w : Mem) : Prop := (∀ p : Int, 0 ≤ p → p < 4 → KPf (252 + 6 * p) (255 + 6 * p) h0 h) ∧ (∀ p : Int, 0 ≤ p → p < 4 → w 55 (4 + p) = w0 55 p ∧ w 56 (4 + p) = w0 56 p ∧ w 57 (4 + p) = w0 57 p) ∧ ∀ j : Int, 0 ≤ j → j < 64 → w 58 (64 + j) = w0 58 j ∧ w 59 (64 + j) = w0 59 j
/-- bodies that were there are as they were -/
def OLDB (β0 β : Int → Int) (D : Int → Prop) (h0 w0 h w : Mem) : Prop := ∀ k : Int, bsy h0 k → (D k ∧ β k = β0 k) ∧ h (28 + 2 * k) 1 = h0 (28 + 2 * k) 1 ∧ (∀ i : Int, h (29 + 2 * k) i = h0 (29 + 2 * k) i) ∧ w 53 (β0 k) = w0 53 (β0 k) ∧ ∀ i : Int, 0 ≤ i → i < 12000 → w 52 (12000 * β0 k + i) = w0 52 (12000 * β0 k + i)
def LIV (β : Int → Int) (D : Int → Prop) (c1 c2 : Int) (h w : Mem) : Prop := (∀ k : Int, D k → h (28 + 2 * k) 3 = 1 ∧ w 54 (β k) = 1) ∧ (∀ k : Int, 0 ≤ k → k < 112 → h (28 + 2 * k) 3 = 0 ∨ h (28 + 2 * k) 3 = 1) ∧ (∀ x : Int, 0 ≤ x → x < 120 → w 54 x = 0 ∨ w 54 x = 1) ∧ smi (fun k => h (28 + 2 * k) 3) 112 ≤ 40 + c1 ∧ smi (w 54) 120 ≤ 40 + c2
/-- a change is under way: it began at h0, w0 -/
def CHG (β0 β : Int → Int) (D : Int → Prop) (c1 c2 : Int) (h0 w0 h w : Mem) : Prop := RSB β0 h0 w0 ∧ SKC h ∧ BD β D h w ∧ (∀ p : Int, 0 ≤ p → p < 4 → FNT β D p h w) ∧ LIV β D c1 c2 h w ∧ KPT h0 w0 h w ∧ OLDB β0 β D h0 w0 h w ∧ TG w
theorem SKC_t {h h1 : Mem} (K : SKC h) (e : ∀ a j : Int, 25 ≤ a → a ≤ 27 → h1 a j = h a j) : SKC h1 := ⟨fun k a b => (e _ _ (by omega) (by omega)).trans (K.1 k a b), fun k a b => (e _ _ (by omega) (by omega)).trans (K.2.1 k a b), fun k a b => (e _ _ (by omega) (by omega)).trans (K.2.2 k a b)⟩
section
variable {A B : Qt → Prop} {Φ : Out → Int → Mem → Out → Int → Mem → Prop} {KL KM : Qt → Qt} {n m : Int} {h w : Mem}
/-- both keep -/
theorem p_keep {β : Int → Int} (R : RSB β h w) (fin : ∀ h1 w1 : Mem, CHG β β (bsy h) 0 0 h w h1 w1 → Fz olC h h1 → Fz kpM w w1 → J2 (fun Q => KL Q (.inl none) n h1) (fun Q => KM Q (.inl none) m w1) Φ) : J2 (fun Q => T gC 473 [vR 5 24] n h (KL Q)) (fun Q => T gM 313 [vR 33 17] m w (KM Q)) Φ := by
  obtain ⟨K, Bd, FTs, b01, us, m1, m2, sm, tg⟩ := id R
  refine c_keep K (fun p a b => ?_) ?_
  · have := (FTs p a b).1
    have := (FTs p a b).2.1
    rw [FO_4 b] at *
    omega
  intro h1 kp F
  refine m_keep FTs Bd ?_
  intro w1 k1 k2 k3 G
  refine fin h1 w1 ⟨R, SKC_t K (fun a j x y => F _ _ (by unfold olC; omega)), ⟨fun k q => ?_, Bd.2⟩, fun p a b => ?_, ⟨fun k q => ?_, fun k a b => ?_, fun x a b => ?_, ?_, ?_⟩, ⟨kp, k1, k2⟩, fun k q => ?_, TG_t tg (fun p a b => ⟨G _ _ (by unfold kpM; omega), G _ _ (by unfold kpM; omega)⟩) (fun j a b => ⟨G _ _ (by unfold kpM; omega), G _ _ (by unfold kpM; omega)⟩)⟩ F G
  · obtain ⟨b1, b2, b3, b4, b5⟩ := Bd.1 k q
    have e : h1 (28 + 2 * k) 1 = h (28 + 2 * k) 1 := F _ _ (by unfold olC; omega)
    refine ⟨b1, b2, by rw [e]; exact b3, by rw [e, G 53 _ (by unfold kpM; omega)]; exact b4, fun i i0 i1 => ?_⟩
    rw [e] at i1
    rw [F (29 + 2 * k) i (by unfold olC; omega), G 52 _ (by unfold kpM; omega)]
    exact b5 i i0 i1
  · exact FNT_t (FTs p a b) (fun j _ _ => F _ _ (by rw [FO_4 b]; unfold olC; omega)) (fun i _ _ => ⟨F _ _ (by rw [FO_4 b]; unfold olC; omega), F _ _ (by rw [FO_4 b]; unfold olC; omega)⟩) ⟨G _ _ (by unfold kpM; omega), G _ _ (by unfold kpM; omega), G _ _ (by unfold kpM; omega)⟩ (fun i _ _ => ⟨G _ _ (by unfold kpM; omega), G _ _ (by unfold kpM; omega)⟩)
  · have b := (Bd.1 k q).2.1
    rw [F _ _ (by obtain ⟨q1, q2, _⟩ := q; unfold olC; omega), k3 _ b.1 b.2]
    exact ⟨q.2.2, us k q⟩
  · rw [F _ _ (by unfold olC; omega)]; exact b01 k a b
  · rw [k3 x a b]; exact uI_r _ _ _
  · rw [smi_c (g := fun k => h (28 + 2 * k) 3) (fun k a b => F _ _ (by unfold olC; omega)), sm]; omega
  · rw [smi_c (g := uI w 64) (fun k a b => k3 k a b)]; omega
  · have b := (Bd.1 k q)
    exact ⟨⟨q, rfl⟩, F _ _ (by unfold olC; omega), fun i => F _ _ (by unfold olC; omega), G _ _ (by unfold kpM; omega), fun i _ _ => G _ _ (by unfold kpM; omega)⟩
/-- a loose body of the house changes -/
theorem cg_h {β0 β : Int → Int} {D : Int → Prop} {c1 c2 c k : Int} {h0 w0 h1 : Mem} (C : CHG β0 β D c1 c2 h0 w0 h w) (k0 : 0 ≤ k ∧ k < 112) (nk : ¬ D k) (F : Fz (fun a _ => a = 28 + 2 * k ∨ a = 29 + 2 * k) h h1) (v : h1 (28 + 2 * k) 3 = 0 ∨ h1 (28 + 2 * k) 3 = 1) (s : smi (fun k => h (28 + 2 * k) 3) 112 - h (28 + 2 * k) 3 + h1 (28 + 2 * k) 3 ≤ 40 + c) : CHG β0 β D c c2 h0 w0 h1 w := by
  obtain ⟨R, K, Bd, FTs, ⟨l1, l2, l3, l4, l5⟩, P, O, tg⟩ := C
  have ne : ∀ k', D k' → k' ≠ k := fun k' q e => nk (e ▸ q)
  refine ⟨R, SKC_t K (fun a j x y => F _ _ (by omega)), ⟨fun k' q => ?_, Bd.2⟩, fun p a b => ?_, ⟨fun k' q => ?_, fun k' a b => ?_, l3, ?_, l5⟩, ⟨fun p a b => ?_, P.2⟩, fun k' q => ?_, tg⟩
  · obtain ⟨b1, b2, b3, b4, b5⟩ := Bd.1 k' q
    have := ne k' q
    have e : h1 (28 + 2 * k') 1 = h (28 + 2 * k') 1 := F _ _ (by omega)
    refine ⟨b1, b2, by rw [e]; exact b3, by rw [e]; exact b4, fun i i0 i1 => ?_⟩
    rw [e] at i1
    rw [F (29 + 2 * k') i (by omega)]
    exact b5 i i0 i1
  · exact FNT_t (FTs p a b) (fun j _ _ => F _ _ (by rw [FO_4 b]; omega)) (fun i _ _ => ⟨F _ _ (by rw [FO_4 b]; omega), F _ _ (by rw [FO_4 b]; omega)⟩) ⟨rfl, rfl, rfl⟩ (fun _ _ _ => ⟨rfl, rfl⟩)
  · have := ne k' q
    rw [F _ _ (by omega)]; exact l1 k' q
  · by_cases e : k' = k
    · rw [e]; exact v
    · rw [F _ _ (by omega)]; exact l2 k' a b
  · rw [smi_c (g := ufn (fun k => h (28 + 2 * k) 3) k (h1 (28 + 2 * k) 3)) (fun k' a b => by
      unfold ufn
      by_cases e : k' = k
      · rw [if_pos e, e]
      · rw [if_neg e]; exact F _ _ (by omega)), smi_u k0.1 k0.2]
    exact s
  · obtain ⟨p1, p2⟩ := P.1 p a b
    exact ⟨fun j x y => by rw [F _ _ (by omega)]; exact p1 j x y, fun i x y => by rw [F _ _ (by omega), F _ _ (by omega)]; exact p2 i x y⟩
  · obtain ⟨o1, o2, o3, o4⟩ := O k' q
    have := ne k' o1.1
    exact ⟨o1, by rw [F _ _ (by omega)]; exact o2, fun i => by rw [F _ _ (by omega)]; exact o3 i, o4⟩
/-- a loose body of the model changes -/
theorem cg_w {β0 β : Int → Int} {D : Int → Prop} {c1 c2 c b : Int} {h0 w0 w1 : Mem} (C : CHG β0 β D c1 c2 h0 w0 h w) (b0 : 0 ≤ b ∧ b < 120) (nb : ∀ k, D k → β k ≠ b) (F : Fz (fun a j => ((a = 53 ∨ a = 54) ∧ j = b) ∨ (a = 52 ∧ 12000 * b ≤ j ∧ j < 12000 * b + 12000)) w w1) (v : w1 54 b = 0 ∨ w1 54 b = 1) (s : smi (w 54) 120 - w 54 b + w1 54 b ≤ 40 + c) : CHG β0 β D c1 c h0 w0 h w1 := by
  obtain ⟨R, K, Bd, FTs, ⟨l1, l2, l3, l4, l5⟩, P, O, tg⟩ := C
  refine ⟨R, K, ⟨fun k' q => ?_, Bd.2⟩, fun p a b => ?_, ⟨fun k' q => ?_, l2, fun x a y => ?_, l4, ?_⟩, ⟨P.1, fun p a y => ?_, fun j a y => ?_⟩, fun k' q => ?_, TG_t tg (fun p a y => ⟨F _ _ (by omega), F _ _ (by omega)⟩) (fun j a y => ⟨F _ _ (by omega), F _ _ (by omega)⟩)⟩
  · obtain ⟨b1, b2, b3, b4, b5⟩ := Bd.1 k' q
    have := nb k' q
    refine ⟨b1, b2, b3, by rw [F _ _ (by omega)]; exact b4, fun i i0 i1 => ?_⟩
    rw [F 52 _ (by omega)]
    exact b5 i i0 i1
  · exact FNT_t (FTs p a b) (fun _ _ _ => rfl) (fun _ _ _ => ⟨rfl, rfl⟩) ⟨F _ _ (by omega), F _ _ (by omega), F _ _ (by omega)⟩ (fun i _ _ => ⟨F _ _ (by omega), F _ _ (by omega)⟩)
  · have := nb k' q
    rw [F _ _ (by omega)]; exact l1 k' q
  · by_cases e : x = b
    · rw [e]; exact v
    · rw [F _ _ (by omega)]; exact l3 x a y
  · rw [smi_c (g := ufn (w 54) b (w1 54 b)) (fun k' a _ => by
      unfold ufn
      by_cases e : k' = b
      · rw [if_pos e, e]
      · rw [if_neg e]; exact F _ _ (by omega)), smi_u b0.1 b0.2]
    exact s
  · rw [F _ _ (by omega), F _ _ (by omega), F _ _ (by omega)]; exact P.2.1 p a y
  · rw [F _ _ (by omega), F _ _ (by omega)]; exact P.2.2 j a y
  · obtain ⟨o1, o2, o3, o4, o5⟩ := O k' q
    have := nb k' o1.1
    rw [o1.2] at this
    exact ⟨o1, o2, o3, by rw [F _ _ (by omega)]; exact o4, fun i i0 i1 => by rw [F _ _ (by omega)]; exact o5 i i0 i1⟩
/-- loose bodies are tied -/
theorem cg_tie {β0 β : Int → Int} {D : Int → Prop} {c1 c2 k b : Int} {h0 w0 : Mem} (C : CHG β0 β D c1 c2 h0 w0 h w) (k0 : 0 ≤ k ∧ k < 112) (nk : ¬ D k) (kb : h (28 + 2 * k) 3 = 1) (b0 : 0 ≤ b ∧ b < 120) (nb : ∀ k, D k → β k ≠ b) (bl : w 54 b = 1) (sz : 0 ≤ h (28 + 2 * k) 1 ∧ h (28 + 2 * k) 1 ≤ 12000) (se : w 53 b = h (28 + 2 * k) 1) (by8 : ∀ i, 0 ≤ i → i < h (28 + 2 * k) 1 → h (29 + 2 * k) i = w 52 (12000 * b + i) ∧ -128 ≤ h (29 + 2 * k) i ∧ h (29 + 2 * k) i ≤ 127) : CHG β0 (ufn β k b) (fun x => D x ∨ x = k) c1 c2 h0 w0 h w := by
  obtain ⟨R, K, Bd, FTs, ⟨l1, l2, l3, l4, l5⟩, P, O, tg⟩ := C
  have ne : ∀ k', D k' → k' ≠ k := fun k' q e => nk (e ▸ q)
  have un : ∀ k', D k' → ufn β k b k' = β k' := fun k' q => ufn_n (ne k' q)
  have ue : ufn β k b k = b := ufn_e
  refine ⟨R, K, ⟨fun k' q => ?_, fun k1 k2 q1 q2 e => ?_⟩, fun p a b => FNT_mo (FTs p a b) (fun k' i _ _ _ q _ => ⟨Or.inl q, un k' q⟩), ⟨fun k' q => ?_, l2, l3, l4, l5⟩, P, fun k' q => ?_, tg⟩
  · rcases q with q | q
    · rw [un k' q]; exact Bd.1 k' q
    · subst q
      rw [ue]; exact ⟨k0, b0, sz, se, by8⟩
  · rcases q1 with q1 | q1
    · rcases q2 with q2 | q2
      · rw [un k1 q1, un k2 q2] at e; exact Bd.2 k1 k2 q1 q2 e
      · subst q2
        rw [un k1 q1, ue] at e; exact absurd e (nb k1 q1)
    · rcases q2 with q2 | q2
      · subst q1
        rw [un k2 q2, ue] at e; exact absurd e.symm (nb k2 q2)
      · rw [q1, q2]
  · rcases q with q | q
    · rw [un k' q]; exact l1 k' q
    · subst q
      rw [ue]; exact ⟨kb, bl⟩
  · obtain ⟨o1, o2⟩ := O k' q
    exact ⟨⟨Or.inl o1.1, by rw [un k' o1.1]; exact o1.2⟩, o2⟩
/-- a fresh body of the house, in a change -/
theorem cg_fresh {β0 β : Int → Int} {D : Int → Prop} {c1 c2 : Int} {h0 w0 : Mem} (C : CHG β0 β D c1 c2 h0 w0 h w) (cc : c1 < 72) : ∃ k : Int, (0 ≤ k ∧ k < 112) ∧ ¬ D k ∧ h (28 + 2 * k) 3 = 0 ∧ Ev gC 474 [vR 5 24] n h (.inl (some (vR 2 (28 + 2 * k)))) n (st (st (st h (28 + 2 * k) 3 1) (28 + 2 * k) 1 0) (28 + 2 * k) 2 0) ∧ CHG β0 β D (c1 + 1) c2 h0 w0 (st (st (st h (28 + 2 * k) 3 1) (28 + 2 * k) 1 0) (28 + 2 * k) 2 0) w := by
  obtain ⟨R, K, Bd, FTs, ⟨l1, l2, l3, l4, l5⟩, P, O, tg⟩ := id C
  obtain ⟨k, k0, k1, ev⟩ := c_fresh (n := n) K l2 (by omega)
  have nk : ¬ D k := fun q => by have := (l1 k q).1; omega
  have e3 : (st (st (st h (28 + 2 * k) 3 1) (28 + 2 * k) 1 0) (28 + 2 * k) 2 0) (28 + 2 * k) 3 = 1 := by rw [st_nj (by omega), st_nj (by omega), st_eq]
  refine ⟨k, k0, nk, k1, ev, cg_h C k0 nk (Fz_st (Fz_st (Fz_st Fz_0 (Or.inl rfl)) (Or.inl rfl)) (Or.inl rfl)) (Or.inr e3) ?_⟩
  rw [e3]; omega
/-- a fresh body of the model, in a change -/
theorem mg_fresh {β0 β : Int → Int} {D : Int → Prop} {c1 c2 x : Int} {h0 w0 : Mem} (C : CHG β0 β D c1 c2 h0 w0 h w) (cc : c2 < 80) (x0 : 0 ≤ x ∧ x ≤ 12000) : ∃ (b : Int) (w1 : Mem), (0 ≤ b ∧ b < 120) ∧ (∀ k, D k → β k ≠ b) ∧ Ev gM 316 [vR 33 17, vI x] m w (.inl (some (vI b))) m w1 ∧ w1 54 b = 1 ∧ w1 53 b = x ∧ (∀ i, 0 ≤ i → i < x → w1 52 (12000 * b + i) = 0) ∧ Fz (fun a j => ((a = 53 ∨ a = 54) ∧ j = b) ∨ (a = 52 ∧ 12000 * b ≤ j ∧ j < 12000 * b + x)) w w1 ∧ CHG β0 β D c1 (c2 + 1) h0 w0 h w1 := by
  obtain ⟨R, K, Bd, FTs, ⟨l1, l2, l3, l4, l5⟩, P, O, tg⟩ := id C
  obtain ⟨b, w1, b0, b1, ev, e1, e2, e3, F⟩ := m_fresh (m := m) x0 l3 (by omega)
  have nb : ∀ k, D k → β k ≠ b := fun k q e => by have := (l1 k q).2; rw [e] at this; omega
  refine ⟨b, w1, b0, nb, ev, e1, e2, e3, Fz_mo F (fun a j g => by omega), cg_w C b0 nb (Fz_mo F (fun a j g => by omega)) (Or.inr e1) ?_⟩
  rw [b1, e1]; omega
end
