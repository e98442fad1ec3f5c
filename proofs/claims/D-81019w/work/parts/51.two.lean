set_option maxRecDepth 100000
/-- two runs, one of the house and one of the model -/
def J2 (A B : Qt → Prop) (Φ : Out → Int → Mem → Out → Int → Mem → Prop) : Prop := ∃ o n h o' n' h', (∀ Q : Qt, Q o n h → A Q) ∧ (∀ Q : Qt, Q o' n' h' → B Q) ∧ Φ o n h o' n' h'
section
variable {A A' B B' : Qt → Prop} {Φ Ψ : Out → Int → Mem → Out → Int → Mem → Prop} {g g' : G} {k k' : Nat} {av av' : List V} {n n1 m m1 : Int} {h h1 w w1 : Mem} {o o' : Out} {P : Prop} {X : Qt → Int → Int → Mem → Prop} {K : Qt → Int → Int → Mem → Prop} {KV : Qt → Int → Mem → Prop} {KO KO' : Qt → Qt} {x : Int} {d : Nat}
theorem J_impL (q : ∀ Q, A' Q → A Q) (j : J2 A' B Φ) : J2 A B Φ := by
  obtain ⟨a1, a2, a3, a4, a5, a6, h1, h2, h3⟩ := j
  exact ⟨a1, a2, a3, a4, a5, a6, fun Q z => q Q (h1 Q z), h2, h3⟩
theorem J_impR (q : ∀ Q, B' Q → B Q) (j : J2 A B' Φ) : J2 A B Φ := by
  obtain ⟨a1, a2, a3, a4, a5, a6, h1, h2, h3⟩ := j
  exact ⟨a1, a2, a3, a4, a5, a6, h1, fun Q z => q Q (h2 Q z), h3⟩
theorem J_mono (j : J2 A B Ψ) (q : ∀ o n h o' n' h', Ψ o n h o' n' h' → Φ o n h o' n' h') : J2 A B Φ := by
  obtain ⟨a1, a2, a3, a4, a5, a6, h1, h2, h3⟩ := j
  exact ⟨a1, a2, a3, a4, a5, a6, h1, h2, q _ _ _ _ _ _ h3⟩
theorem J_andL (p : P) (j : J2 A B Φ) : J2 (fun Q => P ∧ A Q) B Φ := J_impL (fun _ z => ⟨p, z⟩) j
theorem J_andR (p : P) (j : J2 A B Φ) : J2 A (fun Q => P ∧ B Q) Φ := J_impR (fun _ z => ⟨p, z⟩) j
theorem J_posL {c : Prop} [Decidable c] (p : c) (j : J2 A B Φ) : J2 (fun Q => if c then A Q else A' Q) B Φ := J_impL (fun _ z => by rw [if_pos p]; exact z) j
theorem J_negL {c : Prop} [Decidable c] (p : ¬ c) (j : J2 A' B Φ) : J2 (fun Q => if c then A Q else A' Q) B Φ := J_impL (fun _ z => by rw [if_neg p]; exact z) j
theorem J_posR {c : Prop} [Decidable c] (p : c) (j : J2 A B Φ) : J2 A (fun Q => if c then B Q else B' Q) Φ := J_impR (fun _ z => by rw [if_pos p]; exact z) j
theorem J_negR {c : Prop} [Decidable c] (p : ¬ c) (j : J2 A B' Φ) : J2 A (fun Q => if c then B Q else B' Q) Φ := J_impR (fun _ z => by rw [if_neg p]; exact z) j
theorem J_iteL {c : Prop} [Decidable c] (p : c → J2 A B Φ) (q : ¬ c → J2 A' B Φ) : J2 (fun Q => if c then A Q else A' Q) B Φ := by
  by_cases z : c
  · exact J_posL z (p z)
  · exact J_negL z (q z)
theorem J_iteR {c : Prop} [Decidable c] (p : c → J2 A B Φ) (q : ¬ c → J2 A B' Φ) : J2 A (fun Q => if c then B Q else B' Q) Φ := by
  by_cases z : c
  · exact J_posR z (p z)
  · exact J_negR z (q z)
theorem J_end (p : Φ o n h o' m w) : J2 (fun Q => Q o n h) (fun Q => Q o' m w) Φ := ⟨_, _, _, _, _, _, fun _ z => z, fun _ z => z, p⟩
theorem J_call (f : J2 (fun Q => T g k av n h Q) (fun Q => T g' k' av' m w Q) Ψ) (j : ∀ o n h o' m w, Ψ o n h o' m w → J2 (fun Q => KO Q o n h) (fun Q => KO' Q o' m w) Φ) : J2 (fun Q => T g k av n h (KO Q)) (fun Q => T g' k' av' m w (KO' Q)) Φ := by
  obtain ⟨a1, a2, a3, a4, a5, a6, h1, h2, h3⟩ := f
  obtain ⟨b1, b2, b3, b4, b5, b6, k1, k2, k3⟩ := j _ _ _ _ _ _ h3
  exact ⟨b1, b2, b3, b4, b5, b6, fun Q z => h1 (KO Q) (k1 Q z), fun Q z => h2 (KO' Q) (k2 Q z), k3⟩
theorem J_L (e : Ev g k av n h o n1 h1) (j : J2 (fun Q => KO Q o n1 h1) B Φ) : J2 (fun Q => T g k av n h (KO Q)) B Φ := J_impL (fun Q z => e (KO Q) z) j
theorem J_R (e : Ev g k av n h o n1 h1) (j : J2 A (fun Q => KO Q o n1 h1) Φ) : J2 A (fun Q => T g k av n h (KO Q)) Φ := J_impR (fun Q z => e (KO Q) z) j
theorem J_LI (e : Ev g k av n h (.inl (some (vI x))) n1 h1) (j : J2 (fun Q => K Q x n1 h1) B Φ) : J2 (fun Q => T g k av n h (kI (X Q) (K Q))) B Φ := J_impL (fun _ z => e _ z) j
theorem J_RI (e : Ev g k av n h (.inl (some (vI x))) n1 h1) (j : J2 A (fun Q => K Q x n1 h1) Φ) : J2 A (fun Q => T g k av n h (kI (X Q) (K Q))) Φ := J_impR (fun _ z => e _ z) j
theorem J_LL (e : Ev g k av n h (.inl (some (vL x))) n1 h1) (j : J2 (fun Q => K Q x n1 h1) B Φ) : J2 (fun Q => T g k av n h (kL (X Q) (K Q))) B Φ := J_impL (fun _ z => e _ z) j
theorem J_RL (e : Ev g k av n h (.inl (some (vL x))) n1 h1) (j : J2 A (fun Q => K Q x n1 h1) Φ) : J2 A (fun Q => T g k av n h (kL (X Q) (K Q))) Φ := J_impR (fun _ z => e _ z) j
theorem J_LV (e : Ev g k av n h (.inl none) n1 h1) (j : J2 (fun Q => KV Q n1 h1) B Φ) : J2 (fun Q => T g k av n h (kV (X Q) (KV Q))) B Φ := J_impL (fun _ z => e _ z) j
theorem J_RV (e : Ev g k av n h (.inl none) n1 h1) (j : J2 A (fun Q => KV Q n1 h1) Φ) : J2 A (fun Q => T g k av n h (kV (X Q) (KV Q))) Φ := J_impR (fun _ z => e _ z) j
theorem J_LR (e : Ev g k av n h (.inl (some (vR d x))) n1 h1) (j : J2 (fun Q => K Q x n1 h1) B Φ) : J2 (fun Q => T g k av n h (kR d (X Q) (K Q))) B Φ := J_impL (fun _ z => e _ ⟨rfl, z⟩) j
theorem J_RR (e : Ev g k av n h (.inl (some (vR d x))) n1 h1) (j : J2 A (fun Q => K Q x n1 h1) Φ) : J2 A (fun Q => T g k av n h (kR d (X Q) (K Q))) Φ := J_impR (fun _ z => e _ ⟨rfl, z⟩) j
end
section
variable {g : G} {k : Nat} {av : List V} {n n1 : Int} {h h1 : Mem} {X : Int → Int → Mem → Prop} {K : Int → Int → Mem → Prop} {KV : Int → Mem → Prop} {x : Int} {d : Nat}
theorem E_I (e : Ev g k av n h (.inl (some (vI x))) n1 h1) (j : K x n1 h1) : T g k av n h (kI X K) := e _ j
theorem E_L (e : Ev g k av n h (.inl (some (vL x))) n1 h1) (j : K x n1 h1) : T g k av n h (kL X K) := e _ j
theorem E_V (e : Ev g k av n h (.inl none) n1 h1) (j : KV n1 h1) : T g k av n h (kV X KV) := e _ j
theorem E_R (e : Ev g k av n h (.inl (some (vR d x))) n1 h1) (j : K x n1 h1) : T g k av n h (kR d X K) := e _ ⟨rfl, j⟩
end
theorem rd_ge {h : Mem} {a j : Int} (q : 17 ≤ a) : rd h a j = h a j := if_neg (by show ¬ a < (17 : Int); omega)
theorem i2b_2 (x : Int) : i2b (i2b x) = i2b x := by rw [i2b_eq, i2b_eq]; omega
