set_option maxRecDepth 100000
/-- codes of D are told, the others have their weights -/
def TS (D : Int → Prop) (xo : Int) (h w : Mem) : Prop := WR xo h w ∧ (∀ c s, 0 ≤ c → c < 6 → ¬ D c → 0 ≤ s → s < zz c → h (319 + 4 * c) s = w 43 (704 * c + s) ∧ 0 ≤ h (319 + 4 * c) s ∧ h (319 + 4 * c) s ≤ 100000) ∧ (∀ c, 0 ≤ c → c < 6 → D c → MK (zz c) (318 + 4 * c) c h w) ∧ (∀ c, 0 ≤ c → c < 6 → h (318 + 4 * c) 3 = zz c) ∧ h 346 3 = 18
section
variable {n m xo : Int} {h w : Mem}
theorem p_tell1 {D : Int → Prop} {c : Int} (xb : xo = 19 ∨ xo = 428) (zc : (gC.1 (xo + 1)).2 = 16000) (S : TS D xo h w) (c0 : 0 ≤ c ∧ c < 6) (nd : ¬ D c) : J2 (fun Q => T gC 540 [vR 13 313, vR 16 (318 + 4 * c)] n h Q) (fun Q => T gM 300 [vR 33 17, vI c, vI (zz c)] m w Q) (fun o n1 h1 o' m1 w1 => o = .inl none ∧ o' = .inl none ∧ n1 = n ∧ m1 = m ∧ TS (fun x => D x ∨ x = c) xo h1 w1 ∧ Fz (tuC (318 + 4 * c) xo) h h1 ∧ Fz (tuM c (zz c)) w w1) := by
  obtain ⟨W, WT, K, SZ, e7⟩ := S
  have zr := zz_r (c := c)
  have ze : (((zz c).toNat : Nat) : Int) = zz c := by omega
  have gs : zz c = ((gC.1 (318 + 4 * c + 1)).2 : Int) ∧ zz c = ((gC.1 (318 + 4 * c + 2)).2 : Int) ∧ zz c = ((gC.1 (318 + 4 * c + 3)).2 : Int) := by
    rcases (by omega : c = 0 ∨ c = 1 ∨ c = 2 ∨ c = 3 ∨ c = 4 ∨ c = 5) with g | g | g | g | g | g <;> rw [g] <;> decide
  have k := p_tellc (n := n) (m := m) (z := (zz c).toNat) (X := 318 + 4 * c) (c := c) xb zc W (by omega) (by omega) rfl (by omega) (by omega) (by omega) (by rw [SZ c c0.1 c0.2]; exact ze.symm) e7 (fun s a b => by
    have := WT c s c0.1 c0.2 nd a (by omega)
    rw [show 318 + 4 * c + 1 = 319 + 4 * c by omega]; exact this)
  rw [ze] at k
  refine J_mono k ?_
  rintro o n1 h1 o' m1 w1 ⟨p1, p2, p3, p4, W1, K1, F1, G1⟩
  have fh : ∀ c' j d, 0 ≤ c' → c' < 6 → (d = 1 ∨ (d = 0 ∧ j = 3) ∨ (c' ≠ c ∧ (d = 2 ∨ d = 3))) → h1 (318 + 4 * c' + d) j = h (318 + 4 * c' + d) j := fun c' j d a b g => F1 _ _ (by unfold tuC tmC rkG rkF jnF sqF wrC; omega)
  refine ⟨p1, p2, p3, p4, ⟨W1, fun c' s a b nd' s0 s1 => ?_, fun c' a b d' => ?_, fun c' a b => ?_, ?_⟩, F1, G1⟩
  · have ne : c' ≠ c := fun g => nd' (Or.inr g)
    have zr' := zz_r (c := c')
    have f := fh c' s 1 a b (Or.inl rfl)
    rw [show 318 + 4 * c' + 1 = 319 + 4 * c' by omega] at f
    rw [f, G1 43 _ (by unfold tuM tmM fdn fdm fdd fwM sqM wrM; omega)]
    exact WT c' s a b (fun g => nd' (Or.inl g)) s0 s1
  · by_cases ne : c' = c
    · rw [ne]; exact K1
    · have zr' := zz_r (c := c')
      rcases d' with g | g
      · exact MK_t (K c' a b g) (fun s => fh c' s 2 a b (by omega)) (fun s => fh c' s 3 a b (by omega)) (fun s s0 s1 => G1 _ _ (by unfold tuM tmM fdn fdm fdd fwM sqM wrM; omega)) (fun s s0 s1 => G1 _ _ (by unfold tuM tmM fdn fdm fdd fwM sqM wrM; omega))
      · exact absurd g ne
  · have f := fh c' 3 0 a b (by omega)
    rw [Int.add_zero] at f
    rw [f]; exact SZ c' a b
  · rw [F1 346 3 (by unfold tuC tmC rkG rkF jnF sqF wrC; omega)]; exact e7
end
