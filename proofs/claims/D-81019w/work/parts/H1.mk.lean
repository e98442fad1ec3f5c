set_option maxRecDepth 100000
section
variable {B : Qt → Prop} {Φ : Out → Int → Mem → Out → Int → Mem → Prop} {n m : Int} {h w : Mem}
def l_head : List Int := [0, 1, 0, 0, 0, 1, 0, 0, 0, 0, 0, 0, 95, 15, 60, -11, 0, 0, 3, -24, 0, 0, 0, 0, 0, 0, 0, 0, 0, 0, 0, 0, 0, 0, 0, 0, 0, 0, 0, 0, 0, 0, 0, 0, 0, 0, 0, 8, 0, 2, 0, 1, 0, 0]
theorem c_mk_head {K : Qt → Int → Mem → Prop} {o : Int} (on : ¬ o = 0) (z : ((gC.1 (o + 1)).2 : Int) = 12000) (B0 : BL h o []) (fin : ∀ h1 : Mem, BL h1 o l_head → Fz (bdC o) h h1 → J2 (fun Q => K Q n h1) B Φ) : J2 (fun Q => ¬o = 0 ∧ T gC 120 [vR 3 o, vI 65536] n h (kV (thr Q) fun n h => ¬o = 0 ∧ T gC 120 [vR 3 o, vI 65536] n h (kV (thr Q) fun n h => ¬o = 0 ∧ T gC 120 [vR 3 o, vI 0] n h (kV (thr Q) fun n h => ¬o = 0 ∧ T gC 120 [vR 3 o, vI 1594834165] n h (kV (thr Q) fun n h => ¬o = 0 ∧ T gC 121 [vR 3 o, vI 0] n h (kV (thr Q) fun n h => ¬o = 0 ∧ T gC 121 [vR 3 o, vI 1000] n h (kV (thr Q) fun n h => T gC 54 [vR 2 o, vI 24] n h (kV (thr Q) fun n h => ¬o = 0 ∧ T gC 121 [vR 3 o, vI 0] n h (kV (thr Q) fun n h => ¬o = 0 ∧ T gC 121 [vR 3 o, vI 8] n h (kV (thr Q) fun n h => ¬o = 0 ∧ T gC 121 [vR 3 o, vI 2] n h (kV (thr Q) fun n h => ¬o = 0 ∧ T gC 121 [vR 3 o, vI 1] n h (kV (thr Q) fun n h => ¬o = 0 ∧ T gC 121 [vR 3 o, vI 0] n h (kV (thr Q) fun n h => K Q n h))))))))))))) B Φ := by
  have hc : (gC.1 (o + 1)).2 ≤ 16000 := by omega
  repeat (first | refine J_andL (by first | omega | (constructor <;> omega)) ?_ | refine J_andR (by first | omega | (constructor <;> omega)) ?_ | refine J_posL (by first | omega | (constructor <;> omega)) ?_ | refine J_negL (by first | omega | (constructor <;> omega)) ?_ | refine J_posR (by first | omega | (constructor <;> omega)) ?_ | refine J_negR (by first | omega | (constructor <;> omega)) ?_)
  obtain ⟨h1, ev1, B1, F1⟩ := c_add4B (n := n) (v := 65536) hc B0 (by show ((0 : Nat) : Int) + _ ≤ _; omega)
  rw [by4_65536] at B1
  replace B1 : BL h1 o [0, 1, 0, 0] := B1
  refine J_LV ev1 ?_
  repeat (first | refine J_andL (by first | omega | (constructor <;> omega)) ?_ | refine J_andR (by first | omega | (constructor <;> omega)) ?_ | refine J_posL (by first | omega | (constructor <;> omega)) ?_ | refine J_negL (by first | omega | (constructor <;> omega)) ?_ | refine J_posR (by first | omega | (constructor <;> omega)) ?_ | refine J_negR (by first | omega | (constructor <;> omega)) ?_)
  obtain ⟨h2, ev2, B2, F2⟩ := c_add4B (n := n) (v := 65536) hc B1 (by show ((4 : Nat) : Int) + _ ≤ _; omega)
  rw [by4_65536] at B2
  replace B2 : BL h2 o [0, 1, 0, 0, 0, 1, 0, 0] := B2
  refine J_LV ev2 ?_
  repeat (first | refine J_andL (by first | omega | (constructor <;> omega)) ?_ | refine J_andR (by first | omega | (constructor <;> omega)) ?_ | refine J_posL (by first | omega | (constructor <;> omega)) ?_ | refine J_negL (by first | omega | (constructor <;> omega)) ?_ | refine J_posR (by first | omega | (constructor <;> omega)) ?_ | refine J_negR (by first | omega | (constructor <;> omega)) ?_)
  obtain ⟨h3, ev3, B3, F3⟩ := c_add4B (n := n) (v := 0) hc B2 (by show ((8 : Nat) : Int) + _ ≤ _; omega)
  rw [by4_0] at B3
  replace B3 : BL h3 o [0, 1, 0, 0, 0, 1, 0, 0, 0, 0, 0, 0] := B3
  refine J_LV ev3 ?_
  repeat (first | refine J_andL (by first | omega | (constructor <;> omega)) ?_ | refine J_andR (by first | omega | (constructor <;> omega)) ?_ | refine J_posL (by first | omega | (constructor <;> omega)) ?_ | refine J_negL (by first | omega | (constructor <;> omega)) ?_ | refine J_posR (by first | omega | (constructor <;> omega)) ?_ | refine J_negR (by first | omega | (constructor <;> omega)) ?_)
  obtain ⟨h4, ev4, B4, F4⟩ := c_add4B (n := n) (v := 1594834165) hc B3 (by show ((12 : Nat) : Int) + _ ≤ _; omega)
  rw [by4_mag] at B4
  replace B4 : BL h4 o [0, 1, 0, 0, 0, 1, 0, 0, 0, 0, 0, 0, 95, 15, 60, -11] := B4
  refine J_LV ev4 ?_
  repeat (first | refine J_andL (by first | omega | (constructor <;> omega)) ?_ | refine J_andR (by first | omega | (constructor <;> omega)) ?_ | refine J_posL (by first | omega | (constructor <;> omega)) ?_ | refine J_negL (by first | omega | (constructor <;> omega)) ?_ | refine J_posR (by first | omega | (constructor <;> omega)) ?_ | refine J_negR (by first | omega | (constructor <;> omega)) ?_)
  obtain ⟨h5, ev5, B5, F5⟩ := c_add2B (n := n) (v := 0) hc B4 (by show ((16 : Nat) : Int) + _ ≤ _; omega)
  rw [by2_0] at B5
  replace B5 : BL h5 o [0, 1, 0, 0, 0, 1, 0, 0, 0, 0, 0, 0, 95, 15, 60, -11, 0, 0] := B5
  refine J_LV ev5 ?_
  repeat (first | refine J_andL (by first | omega | (constructor <;> omega)) ?_ | refine J_andR (by first | omega | (constructor <;> omega)) ?_ | refine J_posL (by first | omega | (constructor <;> omega)) ?_ | refine J_negL (by first | omega | (constructor <;> omega)) ?_ | refine J_posR (by first | omega | (constructor <;> omega)) ?_ | refine J_negR (by first | omega | (constructor <;> omega)) ?_)
  obtain ⟨h6, ev6, B6, F6⟩ := c_add2B (n := n) (v := 1000) hc B5 (by show ((18 : Nat) : Int) + _ ≤ _; omega)
  rw [by2_1000] at B6
  replace B6 : BL h6 o [0, 1, 0, 0, 0, 1, 0, 0, 0, 0, 0, 0, 95, 15, 60, -11, 0, 0, 3, -24] := B6
  refine J_LV ev6 ?_
  repeat (first | refine J_andL (by first | omega | (constructor <;> omega)) ?_ | refine J_andR (by first | omega | (constructor <;> omega)) ?_ | refine J_posL (by first | omega | (constructor <;> omega)) ?_ | refine J_negL (by first | omega | (constructor <;> omega)) ?_ | refine J_posR (by first | omega | (constructor <;> omega)) ?_ | refine J_negR (by first | omega | (constructor <;> omega)) ?_)
  obtain ⟨h7, ev7, B7, F7⟩ := c_fill (n := n) (x := 24) on hc B6 (by omega) (by show ((20 : Nat) : Int) + _ ≤ _; omega)
  replace B7 : BL h7 o [0, 1, 0, 0, 0, 1, 0, 0, 0, 0, 0, 0, 95, 15, 60, -11, 0, 0, 3, -24, 0, 0, 0, 0, 0, 0, 0, 0, 0, 0, 0, 0, 0, 0, 0, 0, 0, 0, 0, 0, 0, 0, 0, 0] := B7
  refine J_LV ev7 ?_
  repeat (first | refine J_andL (by first | omega | (constructor <;> omega)) ?_ | refine J_andR (by first | omega | (constructor <;> omega)) ?_ | refine J_posL (by first | omega | (constructor <;> omega)) ?_ | refine J_negL (by first | omega | (constructor <;> omega)) ?_ | refine J_posR (by first | omega | (constructor <;> omega)) ?_ | refine J_negR (by first | omega | (constructor <;> omega)) ?_)
  obtain ⟨h8, ev8, B8, F8⟩ := c_add2B (n := n) (v := 0) hc B7 (by show ((44 : Nat) : Int) + _ ≤ _; omega)
  rw [by2_0] at B8
  replace B8 : BL h8 o [0, 1, 0, 0, 0, 1, 0, 0, 0, 0, 0, 0, 95, 15, 60, -11, 0, 0, 3, -24, 0, 0, 0, 0, 0, 0, 0, 0, 0, 0, 0, 0, 0, 0, 0, 0, 0, 0, 0, 0, 0, 0, 0, 0, 0, 0] := B8
  refine J_LV ev8 ?_
  repeat (first | refine J_andL (by first | omega | (constructor <;> omega)) ?_ | refine J_andR (by first | omega | (constructor <;> omega)) ?_ | refine J_posL (by first | omega | (constructor <;> omega)) ?_ | refine J_negL (by first | omega | (constructor <;> omega)) ?_ | refine J_posR (by first | omega | (constructor <;> omega)) ?_ | refine J_negR (by first | omega | (constructor <;> omega)) ?_)
  obtain ⟨h9, ev9, B9, F9⟩ := c_add2B (n := n) (v := 8) hc B8 (by show ((46 : Nat) : Int) + _ ≤ _; omega)
  rw [by2_8] at B9
  replace B9 : BL h9 o [0, 1, 0, 0, 0, 1, 0, 0, 0, 0, 0, 0, 95, 15, 60, -11, 0, 0, 3, -24, 0, 0, 0, 0, 0, 0, 0, 0, 0, 0, 0, 0, 0, 0, 0, 0, 0, 0, 0, 0, 0, 0, 0, 0, 0, 0, 0, 8] := B9
  refine J_LV ev9 ?_
  repeat (first | refine J_andL (by first | omega | (constructor <;> omega)) ?_ | refine J_andR (by first | omega | (constructor <;> omega)) ?_ | refine J_posL (by first | omega | (constructor <;> omega)) ?_ | refine J_negL (by first | omega | (constructor <;> omega)) ?_ | refine J_posR (by first | omega | (constructor <;> omega)) ?_ | refine J_negR (by first | omega | (constructor <;> omega)) ?_)
  obtain ⟨h10, ev10, B10, F10⟩ := c_add2B (n := n) (v := 2) hc B9 (by show ((48 : Nat) : Int) + _ ≤ _; omega)
  rw [by2_2] at B10
  replace B10 : BL h10 o [0, 1, 0, 0, 0, 1, 0, 0, 0, 0, 0, 0, 95, 15, 60, -11, 0, 0, 3, -24, 0, 0, 0, 0, 0, 0, 0, 0, 0, 0, 0, 0, 0, 0, 0, 0, 0, 0, 0, 0, 0, 0, 0, 0, 0, 0, 0, 8, 0, 2] := B10
  refine J_LV ev10 ?_
  repeat (first | refine J_andL (by first | omega | (constructor <;> omega)) ?_ | refine J_andR (by first | omega | (constructor <;> omega)) ?_ | refine J_posL (by first | omega | (constructor <;> omega)) ?_ | refine J_negL (by first | omega | (constructor <;> omega)) ?_ | refine J_posR (by first | omega | (constructor <;> omega)) ?_ | refine J_negR (by first | omega | (constructor <;> omega)) ?_)
  obtain ⟨h11, ev11, B11, F11⟩ := c_add2B (n := n) (v := 1) hc B10 (by show ((50 : Nat) : Int) + _ ≤ _; omega)
  rw [by2_1] at B11
  replace B11 : BL h11 o [0, 1, 0, 0, 0, 1, 0, 0, 0, 0, 0, 0, 95, 15, 60, -11, 0, 0, 3, -24, 0, 0, 0, 0, 0, 0, 0, 0, 0, 0, 0, 0, 0, 0, 0, 0, 0, 0, 0, 0, 0, 0, 0, 0, 0, 0, 0, 8, 0, 2, 0, 1] := B11
  refine J_LV ev11 ?_
  repeat (first | refine J_andL (by first | omega | (constructor <;> omega)) ?_ | refine J_andR (by first | omega | (constructor <;> omega)) ?_ | refine J_posL (by first | omega | (constructor <;> omega)) ?_ | refine J_negL (by first | omega | (constructor <;> omega)) ?_ | refine J_posR (by first | omega | (constructor <;> omega)) ?_ | refine J_negR (by first | omega | (constructor <;> omega)) ?_)
  obtain ⟨h12, ev12, B12, F12⟩ := c_add2B (n := n) (v := 0) hc B11 (by show ((52 : Nat) : Int) + _ ≤ _; omega)
  rw [by2_0] at B12
  replace B12 : BL h12 o [0, 1, 0, 0, 0, 1, 0, 0, 0, 0, 0, 0, 95, 15, 60, -11, 0, 0, 3, -24, 0, 0, 0, 0, 0, 0, 0, 0, 0, 0, 0, 0, 0, 0, 0, 0, 0, 0, 0, 0, 0, 0, 0, 0, 0, 0, 0, 8, 0, 2, 0, 1, 0, 0] := B12
  refine J_LV ev12 ?_
  exact fin h12 B12 (Fz_tr F1 (Fz_tr F2 (Fz_tr F3 (Fz_tr F4 (Fz_tr F5 (Fz_tr F6 (Fz_tr F7 (Fz_tr F8 (Fz_tr F9 (Fz_tr F10 (Fz_tr F11 (F12))))))))))))
def l_hhea : List Int := [0, 1, 0, 0, 0, 0, 0, 0, 0, 0, 0, 0, 0, 0, 0, 0, 0, 0, 0, 0, 0, 0, 0, 0, 0, 0, 0, 0, 0, 0, 0, 0, 0, 0, 0, 1]
theorem c_mk_hhea {K : Qt → Int → Mem → Prop} {o : Int} (on : ¬ o = 0) (z : ((gC.1 (o + 1)).2 : Int) = 12000) (B0 : BL h o []) (fin : ∀ h1 : Mem, BL h1 o l_hhea → Fz (bdC o) h h1 → J2 (fun Q => K Q n h1) B Φ) : J2 (fun Q => ¬o = 0 ∧ T gC 120 [vR 3 o, vI 65536] n h (kV (thr Q) fun n h => T gC 54 [vR 2 o, vI 30] n h (kV (thr Q) fun n h => ¬o = 0 ∧ T gC 121 [vR 3 o, vI 1] n h (kV (thr Q) fun n h => K Q n h)))) B Φ := by
  have hc : (gC.1 (o + 1)).2 ≤ 16000 := by omega
  repeat (first | refine J_andL (by first | omega | (constructor <;> omega)) ?_ | refine J_andR (by first | omega | (constructor <;> omega)) ?_ | refine J_posL (by first | omega | (constructor <;> omega)) ?_ | refine J_negL (by first | omega | (constructor <;> omega)) ?_ | refine J_posR (by first | omega | (constructor <;> omega)) ?_ | refine J_negR (by first | omega | (constructor <;> omega)) ?_)
  obtain ⟨h1, ev1, B1, F1⟩ := c_add4B (n := n) (v := 65536) hc B0 (by show ((0 : Nat) : Int) + _ ≤ _; omega)
  rw [by4_65536] at B1
  replace B1 : BL h1 o [0, 1, 0, 0] := B1
  refine J_LV ev1 ?_
  repeat (first | refine J_andL (by first | omega | (constructor <;> omega)) ?_ | refine J_andR (by first | omega | (constructor <;> omega)) ?_ | refine J_posL (by first | omega | (constructor <;> omega)) ?_ | refine J_negL (by first | omega | (constructor <;> omega)) ?_ | refine J_posR (by first | omega | (constructor <;> omega)) ?_ | refine J_negR (by first | omega | (constructor <;> omega)) ?_)
  obtain ⟨h2, ev2, B2, F2⟩ := c_fill (n := n) (x := 30) on hc B1 (by omega) (by show ((4 : Nat) : Int) + _ ≤ _; omega)
  replace B2 : BL h2 o [0, 1, 0, 0, 0, 0, 0, 0, 0, 0, 0, 0, 0, 0, 0, 0, 0, 0, 0, 0, 0, 0, 0, 0, 0, 0, 0, 0, 0, 0, 0, 0, 0, 0] := B2
  refine J_LV ev2 ?_
  repeat (first | refine J_andL (by first | omega | (constructor <;> omega)) ?_ | refine J_andR (by first | omega | (constructor <;> omega)) ?_ | refine J_posL (by first | omega | (constructor <;> omega)) ?_ | refine J_negL (by first | omega | (constructor <;> omega)) ?_ | refine J_posR (by first | omega | (constructor <;> omega)) ?_ | refine J_negR (by first | omega | (constructor <;> omega)) ?_)
  obtain ⟨h3, ev3, B3, F3⟩ := c_add2B (n := n) (v := 1) hc B2 (by show ((34 : Nat) : Int) + _ ≤ _; omega)
  rw [by2_1] at B3
  replace B3 : BL h3 o [0, 1, 0, 0, 0, 0, 0, 0, 0, 0, 0, 0, 0, 0, 0, 0, 0, 0, 0, 0, 0, 0, 0, 0, 0, 0, 0, 0, 0, 0, 0, 0, 0, 0, 0, 1] := B3
  refine J_LV ev3 ?_
  exact fin h3 B3 (Fz_tr F1 (Fz_tr F2 (F3)))
def l_maxp : List Int := [0, 0, 80, 0, 0, 1]
theorem c_mk_maxp {K : Qt → Int → Mem → Prop} {o : Int} (on : ¬ o = 0) (z : ((gC.1 (o + 1)).2 : Int) = 12000) (B0 : BL h o []) (fin : ∀ h1 : Mem, BL h1 o l_maxp → Fz (bdC o) h h1 → J2 (fun Q => K Q n h1) B Φ) : J2 (fun Q => ¬o = 0 ∧ T gC 120 [vR 3 o, vI 20480] n h (kV (thr Q) fun n h => ¬o = 0 ∧ T gC 121 [vR 3 o, vI 1] n h (kV (thr Q) fun n h => K Q n h))) B Φ := by
  have hc : (gC.1 (o + 1)).2 ≤ 16000 := by omega
  repeat (first | refine J_andL (by first | omega | (constructor <;> omega)) ?_ | refine J_andR (by first | omega | (constructor <;> omega)) ?_ | refine J_posL (by first | omega | (constructor <;> omega)) ?_ | refine J_negL (by first | omega | (constructor <;> omega)) ?_ | refine J_posR (by first | omega | (constructor <;> omega)) ?_ | refine J_negR (by first | omega | (constructor <;> omega)) ?_)
  obtain ⟨h1, ev1, B1, F1⟩ := c_add4B (n := n) (v := 20480) hc B0 (by show ((0 : Nat) : Int) + _ ≤ _; omega)
  rw [by4_20480] at B1
  replace B1 : BL h1 o [0, 0, 80, 0] := B1
  refine J_LV ev1 ?_
  repeat (first | refine J_andL (by first | omega | (constructor <;> omega)) ?_ | refine J_andR (by first | omega | (constructor <;> omega)) ?_ | refine J_posL (by first | omega | (constructor <;> omega)) ?_ | refine J_negL (by first | omega | (constructor <;> omega)) ?_ | refine J_posR (by first | omega | (constructor <;> omega)) ?_ | refine J_negR (by first | omega | (constructor <;> omega)) ?_)
  obtain ⟨h2, ev2, B2, F2⟩ := c_add2B (n := n) (v := 1) hc B1 (by show ((4 : Nat) : Int) + _ ≤ _; omega)
  rw [by2_1] at B2
  replace B2 : BL h2 o [0, 0, 80, 0, 0, 1] := B2
  refine J_LV ev2 ?_
  exact fin h2 B2 (Fz_tr F1 (F2))
end
