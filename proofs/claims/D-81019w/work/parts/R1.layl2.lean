set_option maxRecDepth 100000
section
variable {A B : Qt → Prop} {Φ : Out → Int → Mem → Out → Int → Mem → Prop} {KL KM : Qt → Qt} {n m : Int} {h w : Mem}
/-- glyphs from a to z - 1 stay: 98@109 -/
theorem c_lsts {p g x3 nnn k1 k2 kl kg al fm N Ng : Int} {fl fg : Int → Int} {o8 o9 o10 : Option V} (k10 : 0 ≤ k1 ∧ k1 < 112) (k20 : 0 ≤ k2 ∧ k2 < 112) (n12 : k1 ≠ k2) (n1 : k1 ≠ kl ∧ k1 ≠ kg) (n2 : k2 ≠ kl ∧ k2 ≠ kg) {a z : Int} (a0 : 0 ≤ a) (az : a ≤ z) (zl : z ≤ al) (zn : z ≤ nnn) (ng : ∀ k, a ≤ k → k < z → k ≠ g) {L : List Int} {sv : Int → Int} (V : LVW kl kg al fm N Ng fl fg h) (BG1 : BG h (28 + 2 * k1) 12000 L) (BL2 : BL h (28 + 2 * k2) (lcL fm sv (a + 1).toNat))
    (fin : ∀ (h1 : Mem) (sv' : Int → Int), LVW kl kg al fm N Ng fl fg h1 → BG h1 (28 + 2 * k1) 12000 (L ++ slc fg (lov fm fl a) (lov fm fl z - lov fm fl a).toNat) → BL h1 (28 + 2 * k2) (lcL fm sv' (z + 1).toNat) → (∀ i, i ≤ a → sv' i = sv i) → (∀ i, a < i → i ≤ z → (L.length : Int) + (lov fm fl i - lov fm fl a) ≤ 12000 → sv' i = L.length + (lov fm fl i - lov fm fl a)) → Fz (l2C k1 k2) h h1 → J2 (fun Q => T_at gC 98 109 [some (vR 1 17), some (vI p), some (vI g), some (vI x3), some (vI nnn), some (vR 2 (28 + 2 * k1)), some (vR 2 (28 + 2 * k2)), some (vI z), o8, o9, o10] [] n h1 (KL Q)) B Φ) :
    J2 (fun Q => T_at gC 98 109 [some (vR 1 17), some (vI p), some (vI g), some (vI x3), some (vI nnn), some (vR 2 (28 + 2 * k1)), some (vR 2 (28 + 2 * k2)), some (vI a), o8, o9, o10] [] n h (KL Q)) B Φ := by
  obtain ⟨v1, v2, v3, v4, v5, v6, v7, v8⟩ := id V
  refine lp (F := fun k => ∀ (h1 : Mem) (sv' : Int → Int), LVW kl kg al fm N Ng fl fg h1 → BG h1 (28 + 2 * k1) 12000 (L ++ slc fg (lov fm fl a) (lov fm fl k - lov fm fl a).toNat) → BL h1 (28 + 2 * k2) (lcL fm sv' (k + 1).toNat) → (∀ i, i ≤ a → sv' i = sv i) → (∀ i, a < i → i ≤ k → (L.length : Int) + (lov fm fl i - lov fm fl a) ≤ 12000 → sv' i = L.length + (lov fm fl i - lov fm fl a)) → (0 ≤ lov fm fl k - lov fm fl a) → Fz (l2C k1 k2) h h1 → J2 (fun Q => T_at gC 98 109 [some (vR 1 17), some (vI p), some (vI g), some (vI x3), some (vI nnn), some (vR 2 (28 + 2 * k1)), some (vR 2 (28 + 2 * k2)), some (vI k), o8, o9, o10] [] n h1 (KL Q)) B Φ) (b := a) (n := z) az ?_ ?_ h sv V (by rw [show (lov fm fl a - lov fm fl a).toNat = 0 by omega]; show BG h _ _ (L ++ []); rw [List.append_nil]; exact BG1) BL2 (fun i _ => rfl) (fun i x y => by omega) (by omega) Fz_0
  · intro k k0 kz ih h1 sv' V1 B1 B2 S1 S2 dk F1
    have r1 := lok_r v6 v3.1 (k := k) (by omega) (by omega)
    have le := r1.2.2 (by omega)
    have ll := lcL_l fm sv' (k + 1).toNat
    have ml : ((lcL fm sv' (k + 1).toNat).length : Int) ≤ 400 := by
      rw [ll]
      rcases v2.2.2.2 with q | q
      · rw [if_pos q]; omega
      · rw [if_neg (by omega)]; omega
    refine c_lst V1 k10 k20 n12 n1 n2 (k := k) (by omega) (by omega) (ng k k0 kz) B1 B2 ml ?_
    intro h2 s C1 es C2 F2'
    have sl : L ++ slc fg (lov fm fl a) (lov fm fl k - lov fm fl a).toNat ++ slc fg (lov fm fl k) (lov fm fl (k + 1) - lov fm fl k).toNat = L ++ slc fg (lov fm fl a) (lov fm fl (k + 1) - lov fm fl a).toNat := by
      rw [List.append_assoc]
      have := slc_ai (g := fg) (f := lov fm fl a) (a := lov fm fl k - lov fm fl a) (b := lov fm fl (k + 1) - lov fm fl k) dk (by omega)
      rw [show lov fm fl a + (lov fm fl k - lov fm fl a) = lov fm fl k by omega, show lov fm fl k - lov fm fl a + (lov fm fl (k + 1) - lov fm fl k) = lov fm fl (k + 1) - lov fm fl a by omega] at this
      rw [this]
    rw [sl] at C1
    have len : ((L ++ slc fg (lov fm fl a) (lov fm fl (k + 1) - lov fm fl a).toNat).length : Int) = L.length + (lov fm fl (k + 1) - lov fm fl a) := by rw [List.length_append, slc_l]; omega
    refine ih h2 (ufn sv' (k + 1) s) (LVW_t V1 n1 n2 (fun x j g1 g2 g3 g4 _ => F2' x j (by unfold l2C; omega)) k10 k20) C1 ?_ (fun i x => ?_) (fun i x y q => ?_) (by omega) (Fz_tr F1 F2')
    · rw [show (k + 1 + 1).toNat = (k + 1).toNat + 1 by omega, lcL, show (((k + 1).toNat : Nat) : Int) = k + 1 by omega]
      have el : lcL fm (ufn sv' (k + 1) s) (k + 1).toNat = lcL fm sv' (k + 1).toNat := lcL_c _ (fun i x y => if_neg (by omega))
      rw [el, show ufn sv' (k + 1) s (k + 1) = s from if_pos rfl]
      exact C2
    · rw [show ufn sv' (k + 1) s i = sv' i from if_neg (by omega)]; exact S1 i x
    · by_cases e : i = k + 1
      · rw [e, show ufn sv' (k + 1) s (k + 1) = s from if_pos rfl, ← es]
        rw [e] at q
        rcases C1 with ⟨b1, b2, b3⟩ | ⟨b1, _⟩
        · rw [b3.1, len]
        · omega
      · rw [show ufn sv' (k + 1) s i = sv' i from if_neg (by omega)]; exact S2 i x (by omega) q
  · intro h1 sv' V1 B1 B2 S1 S2 dk F1
    exact fin h1 sv' V1 B1 B2 S1 S2 F1
end
