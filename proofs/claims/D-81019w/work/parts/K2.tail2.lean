set_option maxRecDepth 100000
/-- what the house does when two tables have been made -/
def tl2 (p v1 v2 x y pos a1 a2 n : Int) (h : Mem) (Q : Qt) : Prop := ¬a2 = 0 ∧ T gC 125 [vR 3 a2, vI pos, vI x] n h (kV (thr Q) fun n h => 0 ≤ p ∧ p < 4 ∧ ¬h 26 p = 0 ∧ T gC 484 [vR 7 (h 26 p), vL v1, vR 2 a1] n h (kI (thr Q) fun a_1 n h_1 => if a_1 = 0 then T gC 475 [vR 5 24, vI 0] n h_1 (kI (thr Q) fun a n h => if a = 0 then Q (.inl (some (vI (-4)))) n h else Q (.inl (some (vI y))) n h) else ¬h 26 p = 0 ∧ T gC 484 [vR 7 (h 26 p), vL v2, vR 2 a2] n h_1 (kI (thr Q) fun a n h => if a = 0 then T gC 475 [vR 5 24, vI 0] n h (kI (thr Q) fun a n h => if a = 0 then Q (.inl (some (vI (-4)))) n h else Q (.inl (some (vI y))) n h) else T gC 475 [vR 5 24, vI 1] n h (kI (thr Q) fun a n h => if a = 0 then Q (.inl (some (vI (-4)))) n h else Q (.inl (some (vI y))) n h))))
section
variable {A B : Qt → Prop} {Φ : Out → Int → Mem → Out → Int → Mem → Prop} {KL KM : Qt → Qt} {n m : Int} {h w : Mem}
theorem p_tl2 {β0 β : Int → Int} {D : Int → Prop} {p v1 v2 x y pos sz k b N ke be r : Int} {h0 w0 : Mem} (C : CHG β0 β D 1 1 h0 w0 h w) (k0 : 0 ≤ k ∧ k < 112) (nk : ¬ D k) (kl : h (28 + 2 * k) 3 = 1) (b0 : 0 ≤ b ∧ b < 120) (nb : ∀ k, D k → β k ≠ b) (bl : w 54 b = 1) (L : LK k b N h w) (sb : w 53 b = N) (N1 : N ≤ 12000) (dk : D ke) (db : β ke = be) (sz1 : h (28 + 2 * ke) 1 = sz) (pz : 0 ≤ pos ∧ pos + 1 < sz) (bo : BOF p v2 be w) (p0 : 0 ≤ p ∧ p < 4) (hp : w 55 p = 1) (r0 : 0 ≤ r ∧ r < w 57 p) (er : w 58 (16 * p + r) = v1) (v12 : v1 ≠ v2) (e26 : h 26 p = 252 + 6 * p)
    (fin : ∀ (h1 w1 : Mem) (z : Int), RST h1 w1 → Fz stC h h1 → Fz stM w w1 → J2 (fun Q => Q (.inl (some (vI z))) n h1) (fun Q => Q (.inl (some (vI z))) m w1) Φ) :
    J2 (fun Q => T gC 477 [vR 5 24, vR 2 (28 + 2 * ke)] n h (kR 2 (thr Q) fun a n h => tl2 p v1 v2 x y pos (28 + 2 * k) a n h Q)) (fun Q => T gM 319 [vR 33 17, vI p, vL v1, vI b] m w (kV (thr Q) fun n h => T gM 346 [vR 33 17, vI p, vL v2] n h (kI (thr Q) fun a n h => T gM 390 [vR 33 17, vI a, vI sz] n h (kI (thr Q) fun a n h => T gM 318 [vR 33 17, vI a, vI pos, vI x] n h (kV (thr Q) fun n h => T gM 319 [vR 33 17, vI p, vL v2, vI a] n h (kV (thr Q) fun n h => T gM 321 [vR 33 17] n h (kI (thr Q) fun a n h => if a = 0 then Q (.inl (some (vI (-4)))) n h else Q (.inl (some (vI y))) n h))))))) Φ := by
  obtain ⟨z1, z2, z3⟩ := id L
  obtain ⟨q1, q2, q3, q4, q5⟩ := C.2.2.1.1 ke dk
  rw [db] at q2 q4 q5
  have C1 := cg_tie C k0 nk kl b0 nb bl (by omega) (by omega) (by rw [z1]; exact z3)
  have nek : ke ≠ k := fun e => nk (e ▸ dk)
  have uke : ufn β k b ke = be := by rw [ufn_n nek]; exact db
  obtain ⟨k2, h3, k20, nk2, evc, C2, l3, sz3, by3, F3⟩ := cg_copy (n := n) (k1 := ke) C1 (by omega) (Or.inl dk)
  have nk2k : k2 ≠ k := fun e => nk2 (Or.inr e)
  have nk2e : k2 ≠ ke := fun e => nk2 (Or.inl (e ▸ dk))
  refine J_LR evc ?_
  unfold tl2
  have H4 : Fz (fun a _ => a = 29 + 2 * k2) h3 (s2h k2 pos x h3) := s2h_f
  have l4 : (s2h k2 pos x h3) (28 + 2 * k2) 3 = 1 := (H4 _ _ (by show ¬ (_ = _); omega)).trans l3
  have C3 := cg_h (c := 2) C2 k20 nk2 (Fz_mo H4 (fun a j g => Or.inr g)) (Or.inr l4) (by rw [l3, l4]; have := C2.2.2.2.2.1.2.2.2.1; omega)
  have F4 : Fz (fun a _ => a = 28 + 2 * k2 ∨ a = 29 + 2 * k2) h (s2h k2 pos x h3) := Fz_tr F3 (Fz_mo H4 (fun a j g => Or.inr g))
  have e26' : (s2h k2 pos x h3) 26 p = 252 + 6 * p := (F4 _ _ (by omega)).trans e26
  refine J_andL (by omega) (J_LV (c_set2 k20 (by omega)) ?_)
  rw [e26']
  obtain ⟨ev1, ev2, C4⟩ := p_putE (n := n) (m := m) C3 p0 hp (k := k) (Or.inr rfl) r0 er (fun q i q0 hq i0 z => cg_nb C nb q i q0 hq i0 (z.trans ufn_e))
  rw [ufn_e] at ev2 C4
  refine J_andL p0.1 (J_andL p0.2 (J_andL (by omega) (J_LI ev1 (J_RV ev2 ?_))))
  -- the model looks up the second table
  obtain ⟨r', FD, ey, f3, f4⟩ := bo
  have r'0 : 0 ≤ r' := by
    by_cases q : r' < 0
    · rw [if_pos q] at ey; omega
    · omega
  rw [if_neg (by omega)] at ey
  obtain ⟨f5, f6⟩ : r' < w 57 p ∧ w 58 (16 * p + r') = v2 := by
    rcases FD with ⟨z, _⟩ | ⟨_, z2, z3, _⟩
    · omega
    · exact ⟨z2, z3⟩
  have rne : r' ≠ r := fun e => by rw [e] at f6; omega
  have bo' : BOF p v2 be (st w 59 (16 * p + r) b) := by
    refine ⟨r', ?_, ?_, ?_⟩
    · rw [st_na (by omega)]
      have e : (fun i => st w 59 (16 * p + r) b 58 (16 * p + i)) = fun i => w 58 (16 * p + i) := funext fun i => st_na (by omega)
      rw [e]; exact FD
    · rw [if_neg (by omega), st_nj (by omega)]; exact ey
    · rw [st_na (by omega)]; exact ⟨f3, f4⟩
  refine J_RI (m_bof p0 bo') ?_
  have W1 : Fz (fun a j => a = 59 ∧ j = 16 * p + r) w (st w 59 (16 * p + r) b) := Fz_st Fz_0 ⟨rfl, rfl⟩
  obtain ⟨b2, w3, b20, nb2, evm, l5, sz5, by5, G3, C5⟩ := mg_copy (m := m) (b1 := be) (x := sz) C4 (by omega) (by omega) q2 ⟨ke, Or.inl dk, uke⟩ (by rw [W1 _ _ (by omega)]; omega) (fun i i0 i1 => by rw [W1 _ _ (by omega), ← (q5 i i0 (by omega)).1]; exact (q5 i i0 (by omega)).2)
  refine J_RI evm ?_
  refine J_RV (m_set2 b20 (by omega)) ?_
  have W5 : Fz (fun a j => a = 52 ∧ 12000 * b2 ≤ j ∧ j < 12000 * b2 + 12000) w3 (s2w b2 pos x w3) := s2w_f (by omega)
  have l6 : (s2w b2 pos x w3) 54 b2 = 1 := (W5 _ _ (by omega)).trans l5
  have C6 := cg_w (c := 2) C5 b20 nb2 (Fz_mo W5 (fun a j g => Or.inr g)) (Or.inr l6) (by rw [l5, l6]; have := C5.2.2.2.2.1.2.2.2.2; omega)
  have F5 : Fz (fun a j => (a = 28 + 2 * k2 ∨ a = 29 + 2 * k2) ∨ (a = 252 + 6 * p + 2 ∧ j = r)) h (st (s2h k2 pos x h3) (252 + 6 * p + 2) r (28 + 2 * k)) := Fz_st (Fz_mo F4 (fun a j g => Or.inl g)) (Or.inr ⟨rfl, rfl⟩)
  have B5 : ∀ i, 0 ≤ i → i < sz → (st (s2h k2 pos x h3) (252 + 6 * p + 2) r (28 + 2 * k)) (29 + 2 * k2) i = (s2w b2 pos x w3) 52 (12000 * b2 + i) ∧ -128 ≤ (st (s2h k2 pos x h3) (252 + 6 * p + 2) r (28 + 2 * k)) (29 + 2 * k2) i ∧ (st (s2h k2 pos x h3) (252 + 6 * p + 2) r (28 + 2 * k)) (29 + 2 * k2) i ≤ 127 := by
    intro i i0 i1
    rw [st_na (show (29 + 2 * k2) ≠ 252 + 6 * p + 2 by omega)]
    refine s2_by (N := sz) (fun j j0 j1 => ?_) i i0 i1
    rw [by3 j j0 (by omega), by5 j j0 j1, W1 _ _ (by omega)]
    exact q5 j j0 (by omega)
  have z5 : (st (s2h k2 pos x h3) (252 + 6 * p + 2) r (28 + 2 * k)) (28 + 2 * k2) 1 = sz := by rw [st_na (by omega), H4 _ _ (by show ¬ (_ = _); omega)]; omega
  have l7 : (st (s2h k2 pos x h3) (252 + 6 * p + 2) r (28 + 2 * k)) (28 + 2 * k2) 3 = 1 := by rw [st_na (by omega)]; exact l4
  have C7 := cg_tie C6 k20 nk2 l7 b20 nb2 l6 (by omega) (by rw [W5 _ _ (by omega), sz5, z5]) (by rw [z5]; exact B5)
  have wf : ∀ a j, a = 55 ∨ a = 57 ∨ a = 58 → (s2w b2 pos x w3) a j = w a j := fun a j q => by rw [W5 _ _ (by omega), G3 _ _ (by omega), W1 _ _ (by omega)]
  obtain ⟨ev3, ev4, C8⟩ := p_putE (n := n) (m := m) C7 p0 (by rw [wf _ _ (by omega)]; exact hp) (k := k2) (Or.inr rfl) (r := r') (v := v2) (by rw [wf _ _ (by omega)]; omega) ((wf _ _ (by omega)).trans f6) (fun q i q0 hq i0 z => cg_nb C6 nb2 q i q0 hq i0 (z.trans ufn_e))
  rw [ufn_e] at ev4 C8
  have FA : Fz stC h (st (st (s2h k2 pos x h3) (252 + 6 * p + 2) r (28 + 2 * k)) (252 + 6 * p + 2) r' (28 + 2 * k2)) := Fz_st (Fz_mo F5 (fun a j g => by unfold stC; omega)) (by unfold stC; omega)
  have GA : Fz stM w (st (s2w b2 pos x w3) 59 (16 * p + r') b2) := Fz_st (Fz_tr (Fz_mo W1 (fun a j g => by unfold stM; omega)) (Fz_tr (Fz_mo G3 (fun a j g => by unfold stM; omega)) (Fz_mo W5 (fun a j g => by unfold stM; omega)))) (by unfold stM; omega)
  refine J_negL (by omega) (J_andL (by omega) (J_LI ev3 (J_RV ev4 (J_negL (by omega) ?_))))
  refine p_stands C8 ?_ ?_
  · intro h6 R6 F6
    simp only [e_kIv]
    repeat (first | refine J_andL (by first | omega | (constructor <;> omega)) ?_ | refine J_andR (by first | omega | (constructor <;> omega)) ?_ | refine J_posL (by first | omega | (constructor <;> omega)) ?_ | refine J_negL (by first | omega | (constructor <;> omega)) ?_ | refine J_posR (by first | omega | (constructor <;> omega)) ?_ | refine J_negR (by first | omega | (constructor <;> omega)) ?_)
    exact fin _ _ _ ⟨_, R6⟩ (Fz_tr FA (Fz_mo F6 (fun a j g => by unfold ctC at g; unfold stC; omega))) GA
  · intro h6 w6 R6 F6 G6 _
    simp only [e_kIv]
    repeat (first | refine J_andL (by first | omega | (constructor <;> omega)) ?_ | refine J_andR (by first | omega | (constructor <;> omega)) ?_ | refine J_posL (by first | omega | (constructor <;> omega)) ?_ | refine J_negL (by first | omega | (constructor <;> omega)) ?_ | refine J_posR (by first | omega | (constructor <;> omega)) ?_ | refine J_negR (by first | omega | (constructor <;> omega)) ?_)
    exact fin _ _ _ ⟨_, R6⟩ (Fz_tr FA (Fz_mo F6 (fun a j g => by unfold nsC ctC fnC at g; unfold stC; omega))) (Fz_tr GA (Fz_mo G6 (fun a j g => by unfold unM at g; unfold stM; omega)))
end
