set_option maxRecDepth 100000
/-- what the house does with maxp and hmtx when there is one glyph more -/
def tlm (p nnn k1 n : Int) (h : Mem) (Q : Qt) : Prop := T gC 477 [vR 5 24, vR 2 (h 365 4)] n h (kR 2 (thr Q) fun a n h => ¬a = 0 ∧ T gC 125 [vR 3 a, vI 4, vI nnn] n h (kV (thr Q) fun n h => T gC 477 [vR 5 24, vR 2 (h 365 6)] n h (kR 2 (thr Q) fun a_1 n h => ¬a_1 = 0 ∧ T gC 121 [vR 3 a_1, vI 0] n h (kV (thr Q) fun n h => ¬a_1 = 0 ∧ if h a_1 2 = 0 then ¬252 + 6 * p = 0 ∧ T gC 484 [vR 7 (252 + 6 * p), vL 1835104368, vR 2 a] n h (kI (thr Q) fun a n h => if a = 0 then ¬28 + 2 * k1 = 0 ∧ T gC 475 [vR 5 24, vI 0] n h (kI (thr Q) fun a n h_1 => if a = 0 then Q (.inl (some (vI (-4)))) n h_1 else Q (.inl (some (vI (h (28 + 2 * k1) 1)))) n h_1) else ¬252 + 6 * p = 0 ∧ T gC 484 [vR 7 (252 + 6 * p), vL 1752003704, vR 2 a_1] n h (kI (thr Q) fun a n h => if a = 0 then ¬28 + 2 * k1 = 0 ∧ T gC 475 [vR 5 24, vI 0] n h (kI (thr Q) fun a n h_1 => if a = 0 then Q (.inl (some (vI (-4)))) n h_1 else Q (.inl (some (vI (h (28 + 2 * k1) 1)))) n h_1) else ¬28 + 2 * k1 = 0 ∧ T gC 475 [vR 5 24, vI 1] n h (kI (thr Q) fun a n h_1 => if a = 0 then Q (.inl (some (vI (-4)))) n h_1 else Q (.inl (some (vI (h (28 + 2 * k1) 1)))) n h_1))) else ¬28 + 2 * k1 = 0 ∧ T gC 475 [vR 5 24, vI 0] n h (kI (thr Q) fun a n h_1 => if a = 0 then Q (.inl (some (vI (-4)))) n h_1 else Q (.inl (some (vI (h (28 + 2 * k1) 1)))) n h_1)))))
/-- and the model -/
def tlw (p nnn z m : Int) (w : Mem) (Q : Qt) : Prop := T gM 346 [vR 33 17, vI p, vL 1835104368] m w (kI (thr Q) fun a n h => T gM 346 [vR 33 17, vI p, vL 1835104368] n h (kI (thr Q) fun a_1 n h => 0 ≤ a_1 ∧ a_1 < 120 ∧ T gM 390 [vR 33 17, vI a, vI (h 53 a_1)] n h (kI (thr Q) fun a n h => T gM 318 [vR 33 17, vI a, vI 4, vI nnn] n h (kV (thr Q) fun n h => T gM 319 [vR 33 17, vI p, vL 1835104368, vI a] n h (kV (thr Q) fun n h => T gM 346 [vR 33 17, vI p, vL 1752003704] n h (kI (thr Q) fun a n h => 0 ≤ a ∧ a < 120 ∧ i32 (h 53 a + 2) ∧ T gM 390 [vR 33 17, vI a, vI (h 53 a + 2)] n h (kI (thr Q) fun a n h => T gM 319 [vR 33 17, vI p, vL 1752003704, vI a] n h (kV (thr Q) fun n h => T gM 321 [vR 33 17] n h (kI (thr Q) fun a n h => if a = 0 then Q (.inl (some (vI (-4)))) n h else Q (.inl (some (vI z))) n h)))))))))
section
variable {A B : Qt → Prop} {Φ : Out → Int → Mem → Out → Int → Mem → Prop} {KL KM : Qt → Qt} {n m : Int} {h w : Mem}
theorem p_more {β0 β : Int → Int} {D : Int → Prop} {p nnn z k1 km bm kt bt : Int} {h0 w0 : Mem} (C : CHG β0 β D 2 2 h0 w0 h w) (p0 : 0 ≤ p ∧ p < 4) (hp : w 55 p = 1) (e4 : h 365 4 = 28 + 2 * km) (e6 : h 365 6 = 28 + 2 * kt) (dm : D km) (bbm : β km = bm) (Bm : BOF p 1835104368 bm w) (dt : D kt) (bbt : β kt = bt) (Bt : BOF p 1752003704 bt w) (sm : 6 ≤ h (28 + 2 * km) 1) (sx : h (28 + 2 * kt) 1 ≤ 11990) (dk : D k1) (ek : h (28 + 2 * k1) 1 = z)
    (fin : ∀ (h1 w1 : Mem) (z : Int), RST h1 w1 → Fz stC h h1 → Fz stM w w1 → J2 (fun Q => Q (.inl (some (vI z))) n h1) (fun Q => Q (.inl (some (vI z))) m w1) Φ) :
    J2 (fun Q => tlm p nnn k1 n h Q) (fun Q => tlw p nnn z m w Q) Φ := by
  obtain ⟨km0, bm0, sm1, sm2, sm3⟩ := C.2.2.1.1 km dm
  obtain ⟨kt0, bt0, st1, st2, st3⟩ := C.2.2.1.1 kt dt
  have kk0 := (C.2.2.1.1 k1 dk).1
  rw [bbm] at bm0 sm2 sm3
  rw [bbt] at bt0 st2 st3
  obtain ⟨rm, rm0, erm⟩ := BOF_r Bm bm0.1
  obtain ⟨rt, rt0, ert⟩ := BOF_r Bt bt0.1
  have rne : rm ≠ rt := fun e => by rw [e] at erm; omega
  unfold tlm tlw
  rw [e4]
  obtain ⟨ka, h2, ka0, nka, eva, C2, la2, oa2, sa2, ba2, F2, -⟩ := cg_copy0 (n := n) C (by omega) dm
  refine J_LR eva (J_andL (by omega) (J_LV (c_set2 ka0 (by omega)) ?_))
  have H3 : Fz (fun a _ => a = 29 + 2 * ka) h2 (s2h ka 4 nnn h2) := s2h_f
  have B3 : ∀ i, 0 ≤ i → i < h (28 + 2 * km) 1 → h2 (29 + 2 * ka) i = w 52 (12000 * bm + i) ∧ -128 ≤ h2 (29 + 2 * ka) i ∧ h2 (29 + 2 * ka) i ≤ 127 := fun i a b => by rw [ba2 i a b]; exact sm3 i a b
  have la3 : (s2h ka 4 nnn h2) (28 + 2 * ka) 3 = 1 := (H3 _ _ (by show ¬ (_ = _); omega)).trans la2
  have C3 := cg_h (c := 3) C2 ka0 nka (Fz_mo H3 (fun a j g => Or.inr g)) (Or.inr la3) (by rw [la2, la3]; have := C2.2.2.2.2.1.2.2.2.1; omega)
  have nea : ∀ k, D k → k ≠ ka := fun k q e => nka (e ▸ q)
  have net := nea kt dt
  have nem := nea km dm
  have nek := nea k1 dk
  have F3 : Fz (fun a _ => a = 28 + 2 * ka ∨ a = 29 + 2 * ka) h (s2h ka 4 nnn h2) := Fz_tr F2 (Fz_mo H3 (fun a j g => Or.inr g))
  rw [F3 365 6 (by omega), e6]
  obtain ⟨kb, h4, kb0, nkb, evb, C4, lb4, ob4, sb4, bb4, F4, fb4⟩ := cg_copy0 (n := n) (k1 := kt) C3 (by omega) dt
  have nab : kb ≠ ka := fun e => by rw [e, la3] at fb4; omega
  have nebk : k1 ≠ kb := fun e => nkb (e ▸ dk)
  rw [F3 _ _ (by omega)] at sb4 bb4
  have zz := bsz kb0
  have GB : BG h4 (28 + 2 * kb) 12000 (slc (h (29 + 2 * kt)) 0 (h (28 + 2 * kt) 1).toNat) := Or.inl ⟨by rw [slc_l]; omega, ob4, by rw [slc_l, sb4]; omega, fun i hi => by
    rw [slc_l] at hi
    rw [slc_g _ _ _ _ hi, show 28 + 2 * kb + 1 = 29 + 2 * kb by omega, bb4 i (by omega) (by omega), F3 _ _ (by omega)]
    congr 1; omega⟩
  obtain ⟨h5, evd, G5, F5⟩ := c_add2G (n := n) (v := 0) (by rw [show 28 + 2 * kb + 1 = 29 + 2 * kb by omega, zz]; rfl) (by omega) (by omega) GB
  refine J_LR evb (J_andL (by omega) (J_LV evd (J_andL (by omega) ?_)))
  have len5 : ((slc (h (29 + 2 * kt)) 0 (h (28 + 2 * kt) 1).toNat ++ [i2b (isr 0 8), i2b 0]).length : Int) = h (28 + 2 * kt) 1 + 2 := by rw [List.length_append, slc_l]; simp; omega
  obtain ⟨o5, B5⟩ : h5 (28 + 2 * kb) 2 = 0 ∧ BL h5 (28 + 2 * kb) (slc (h (29 + 2 * kt)) 0 (h (28 + 2 * kt) 1).toNat ++ [i2b (isr 0 8), i2b 0]) := by
    rcases G5 with ⟨_, b2, b3⟩ | ⟨b1, _⟩
    · exact ⟨b2, b3⟩
    · omega
  have s5 : h5 (28 + 2 * kb) 1 = h (28 + 2 * kt) 1 + 2 := B5.1.trans len5
  have y5 : ∀ i, 0 ≤ i → i < h (28 + 2 * kt) 1 + 2 → h5 (29 + 2 * kb) i = if i < h (28 + 2 * kt) 1 then h (29 + 2 * kt) i else 0 := fun i x y => by
    have q := B5.2 i.toNat (by omega)
    rw [show 28 + 2 * kb + 1 = 29 + 2 * kb by omega, show ((i.toNat : Nat) : Int) = i by omega] at q
    rw [q]
    by_cases e : i < h (28 + 2 * kt) 1
    · rw [if_pos e, gD_l (by rw [slc_l]; omega), slc_g _ _ _ _ (by omega)]
      congr 1; omega
    · rw [if_neg e, gD_r (by rw [slc_l]; omega), slc_l]
      have : i.toNat - (h (28 + 2 * kt) 1).toNat = 0 ∨ i.toNat - (h (28 + 2 * kt) 1).toNat = 1 := by omega
      rcases this with q | q
      · rw [q]; rfl
      · rw [q]; rfl
  have F5' : ∀ a j, ¬ (a = 28 + 2 * kb ∧ (j = 1 ∨ j = 2)) → a ≠ 29 + 2 * kb → h5 a j = h4 a j := fun a j x y => F5 a j (by unfold bgF; omega)
  have lb5 : h5 (28 + 2 * kb) 3 = 1 := (F5' _ _ (by omega) (by omega)).trans lb4
  have C5 := cg_h (c := 4) C4 kb0 nkb (Fz_mo F5 (fun a j g => by unfold bgF at g; omega)) (Or.inr lb5) (by rw [lb4, lb5]; have := C4.2.2.2.2.1.2.2.2.1; omega)
  have E5 : ∀ a j, a ≠ 28 + 2 * ka → a ≠ 29 + 2 * ka → a ≠ 28 + 2 * kb → a ≠ 29 + 2 * kb → h5 a j = h a j := fun a j x1 x2 x3 x4 => by rw [F5' _ _ (by omega) (by omega), F4 _ _ (by omega), F3 _ _ (by omega)]
  refine J_posL o5 (J_andL (by omega) ?_)
  -- the model's maxp
  refine J_RI (m_bof p0 Bm) (J_RI (m_bof p0 Bm) (J_andR bm0.1 (J_andR bm0.2 ?_)))
  obtain ⟨b3, w2, b30, nb3, evc, l3, sz3, by3, G2, C6⟩ := mg_copy (m := m) (b1 := bm) (x := w 53 bm) C5 (by omega) (by omega) bm0 ⟨km, dm, bbm⟩ (by omega) (fun i a b => by rw [← (sm3 i a (by omega)).1]; exact (sm3 i a (by omega)).2)
  refine J_RI evc (J_RV (m_set2 b30 (by omega)) ?_)
  have W3 : Fz (fun a j => a = 52 ∧ 12000 * b3 ≤ j ∧ j < 12000 * b3 + 12000) w2 (s2w b3 4 nnn w2) := s2w_f (by omega)
  have l3' : (s2w b3 4 nnn w2) 54 b3 = 1 := (W3 _ _ (by omega)).trans l3
  have C7 := cg_w (c := 3) C6 b30 nb3 (Fz_mo W3 (fun a j g => Or.inr g)) (Or.inr l3') (by rw [l3, l3']; have := C6.2.2.2.2.1.2.2.2.2; omega)
  have ya : ∀ i, 0 ≤ i → i < h (28 + 2 * km) 1 → h5 (29 + 2 * ka) i = (s2w b3 4 nnn w2) 52 (12000 * b3 + i) ∧ -128 ≤ h5 (29 + 2 * ka) i ∧ h5 (29 + 2 * ka) i ≤ 127 := fun i x y => by
    rw [F5' _ _ (by omega) (by omega), F4 _ _ (by omega)]
    refine s2_by (N := h (28 + 2 * km) 1) (fun j a b => ?_) i x y
    rw [by3 j a (by omega)]; exact B3 j a b
  have a51 : h5 (28 + 2 * ka) 1 = h (28 + 2 * km) 1 := by rw [F5' _ _ (by omega) (by omega), F4 _ _ (by omega), H3 _ _ (by show ¬ (_ = _); omega)]; exact sa2
  have a53 : h5 (28 + 2 * ka) 3 = 1 := by rw [F5' _ _ (by omega) (by omega), F4 _ _ (by omega)]; exact la3
  have C8 := cg_tie C7 ka0 nka a53 b30 nb3 l3' (by omega) (by rw [W3 _ _ (by omega), sz3, a51]; exact sm2) (by rw [a51]; exact ya)
  have w3e : ∀ a j, ¬ (52 ≤ a ∧ a ≤ 54) → (s2w b3 4 nnn w2) a j = w a j := fun a j x => by rw [W3 _ _ (by omega), G2 _ _ (by omega)]
  have w3b : ∀ a j, ¬ (j = b3) → a = 53 ∨ a = 54 → (s2w b3 4 nnn w2) a j = w a j := fun a j x y => by rw [W3 _ _ (by omega), G2 _ _ (by omega)]
  have nbt : bt ≠ b3 := fun e => nb3 kt dt (bbt.trans e)
  have w52 : ∀ j, 0 ≤ j → j < 12000 → (s2w b3 4 nnn w2) 52 (12000 * bt + j) = w 52 (12000 * bt + j) := fun j a b => by rw [W3 _ _ (by omega), G2 _ _ (by omega)]
  have w53 := w3b 53 bt nbt (by omega)
  have GA3 : Fz stM w (s2w b3 4 nnn w2) := Fz_tr (Fz_mo G2 (fun a j g => by unfold stM; omega)) (Fz_mo W3 (fun a j g => by unfold stM; omega))
  obtain ⟨ev1, ev2, C9⟩ := p_putE (n := n) (m := m) C8 p0 (by rw [w3e _ _ (by omega)]; exact hp) (k := ka) (Or.inr rfl) (r := rm) (v := 1835104368) (by rw [w3e _ _ (by omega)]; omega) ((w3e _ _ (by omega)).trans erm) (fun q i q0 hq i0 z => cg_nb C7 nb3 q i q0 hq i0 (z.trans ufn_e))
  rw [ufn_e] at ev2 C9
  refine J_LI ev1 (J_RV ev2 (J_negL (by omega) (J_andL (by omega) ?_)))
  have Bt' : BOF p 1752003704 bt (st (s2w b3 4 nnn w2) 59 (16 * p + rm) b3) := by
    refine BOF_k Bt (by rw [st_na (by omega)]; exact w3e _ _ (by omega)) (fun i _ _ => by rw [st_na (by omega)]; exact w3e _ _ (by omega)) (fun i _ _ q => ?_)
    have : i ≠ rm := fun e => by rw [e] at q; omega
    rw [st_nj (by omega)]; exact w3e _ _ (by omega)
  refine J_RI (m_bof p0 Bt') ?_
  have W6 : Fz (fun a j => a = 59 ∧ j = 16 * p + rm) (s2w b3 4 nnn w2) (st (s2w b3 4 nnn w2) 59 (16 * p + rm) b3) := Fz_st Fz_0 ⟨rfl, rfl⟩
  have H6 : Fz (fun a j => a = 252 + 6 * p + 2 ∧ j = rm) h5 (st h5 (252 + 6 * p + 2) rm (28 + 2 * ka)) := Fz_st Fz_0 ⟨rfl, rfl⟩
  revert W6 H6 C9
  generalize st (s2w b3 4 nnn w2) 59 (16 * p + rm) b3 = w6
  generalize st h5 (252 + 6 * p + 2) rm (28 + 2 * ka) = h6
  intro C9 W6 H6
  have w653 : w6 53 bt = h (28 + 2 * kt) 1 := by rw [W6 _ _ (by omega), w53]; exact st2
  rw [w653]
  have w652 : ∀ j, 0 ≤ j → j < 12000 → w6 52 (12000 * bt + j) = w 52 (12000 * bt + j) := fun j a b => by rw [W6 _ _ (by omega)]; exact w52 j a b
  refine J_andR bt0.1 (J_andR bt0.2 (J_andR (by unfold i32; omega) ?_))
  obtain ⟨b4, w7, b40, nb4, eve, l7, sz7, by7, by8, G7, C10⟩ := mg_copyZ (m := m) (b1 := bt) (x := h (28 + 2 * kt) 1 + 2) C9 (by omega) (by omega) bt0 ⟨kt, Or.inl dt, by rw [ufn_n net]; exact bbt⟩ (by omega) (fun i a b => by rw [w652 i a (by omega), ← (st3 i a (by omega)).1]; exact (st3 i a (by omega)).2)
  rw [w653] at by7 by8
  refine J_RI eve ?_
  have nkb' : ¬ (D kb ∨ kb = ka) := fun q => q.elim nkb nab
  have h6e : ∀ a j, a < 252 → h6 a j = h5 a j := fun a j x => H6 _ _ (by omega)
  have s6 : h6 (28 + 2 * kb) 1 = h (28 + 2 * kt) 1 + 2 := by rw [h6e _ _ (by omega)]; exact s5
  have C11 := cg_tie C10 kb0 nkb' (by rw [h6e _ _ (by omega)]; exact lb5) b40 nb4 l7 (by omega) (by rw [sz7, s6]) (by
    rw [s6]
    intro i x y
    rw [h6e _ _ (by omega), y5 i x y]
    by_cases e : i < h (28 + 2 * kt) 1
    · rw [if_pos e, by7 i x e, w652 i x (by omega)]; exact st3 i x e
    · rw [if_neg e, by8 i (by omega) y]; exact ⟨rfl, by omega, by omega⟩)
  have w7e : ∀ a j, a = 55 ∨ a = 57 ∨ a = 58 → w7 a j = w a j := fun a j x => by rw [G7 _ _ (by omega), W6 _ _ (by omega), w3e _ _ (by omega)]
  obtain ⟨ev3, ev4, C12⟩ := p_putE (n := n) (m := m) C11 p0 (by rw [w7e _ _ (by omega)]; exact hp) (k := kb) (Or.inr rfl) (r := rt) (v := 1752003704) (by rw [w7e _ _ (by omega)]; omega) ((w7e _ _ (by omega)).trans ert) (fun q i q0 hq i0 z => cg_nb C10 nb4 q i q0 hq i0 (z.trans ufn_e))
  rw [ufn_e] at ev4 C12
  refine J_LI ev3 (J_RV ev4 (J_negL (by omega) (J_andL (by omega) ?_)))
  have FA : Fz stC h (st h6 (252 + 6 * p + 2) rt (28 + 2 * kb)) := Fz_st (Fz_tr (Fz_tr (Fz_mo F3 (fun a j g => by unfold stC; omega)) (Fz_mo F4 (fun a j g => by unfold stC; omega))) (Fz_tr (Fz_mo F5 (fun a j g => by unfold bgF at g; unfold stC; omega)) (Fz_mo H6 (fun a j g => by unfold stC; omega)))) (by unfold stC; omega)
  have GA : Fz stM w (st w7 59 (16 * p + rt) b4) := Fz_st (Fz_tr GA3 (Fz_tr (Fz_mo W6 (fun a j g => by unfold stM; omega)) (Fz_mo G7 (fun a j g => by unfold stM; omega)))) (by unfold stM; omega)
  have ez : (st h6 (252 + 6 * p + 2) rt (28 + 2 * kb)) (28 + 2 * k1) 1 = z := by rw [st_na (by omega), h6e _ _ (by omega), E5 _ _ (by omega) (by omega) (by omega) (by omega)]; exact ek
  rw [ez]
  refine p_stands C12 ?_ ?_
  · intro h8 R8 F8
    simp only [e_kIv]
    repeat (first | refine J_andL (by first | omega | (constructor <;> omega)) ?_ | refine J_andR (by first | omega | (constructor <;> omega)) ?_ | refine J_posL (by first | omega | (constructor <;> omega)) ?_ | refine J_negL (by first | omega | (constructor <;> omega)) ?_ | refine J_posR (by first | omega | (constructor <;> omega)) ?_ | refine J_negR (by first | omega | (constructor <;> omega)) ?_)
    exact fin _ _ _ ⟨_, R8⟩ (Fz_tr FA (Fz_mo F8 (fun a j g => by unfold ctC at g; unfold stC; omega))) GA
  · intro h8 w8 R8 F8 G8 _
    simp only [e_kIv]
    repeat (first | refine J_andL (by first | omega | (constructor <;> omega)) ?_ | refine J_andR (by first | omega | (constructor <;> omega)) ?_ | refine J_posL (by first | omega | (constructor <;> omega)) ?_ | refine J_negL (by first | omega | (constructor <;> omega)) ?_ | refine J_posR (by first | omega | (constructor <;> omega)) ?_ | refine J_negR (by first | omega | (constructor <;> omega)) ?_)
    exact fin _ _ _ ⟨_, R8⟩ (Fz_tr FA (Fz_mo F8 (fun a j g => by unfold nsC ctC fnC at g; unfold stC; omega))) (Fz_tr GA (Fz_mo G8 (fun a j g => by unfold unM at g; unfold stM; omega)))
end
