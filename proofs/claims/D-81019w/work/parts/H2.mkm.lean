set_option maxRecDepth 100000
/-- the bytes of the model's body b -/
def BM (w : Mem) (b : Int) (L : List Int) : Prop := ∀ (i : Nat) (y : Int), L[i]? = some y → w 52 (12000 * b + i) = y
section
variable {A : Qt → Prop} {Φ : Out → Int → Mem → Out → Int → Mem → Prop} {n m : Int} {h w : Mem}
theorem BM_s {b y : Int} {L : List Int} {i : Nat} (B : BM w b L) : BM (st w 52 (12000 * b + i) y) b (L.set i y) := by
  intro j z hz
  rw [List.getElem?_set] at hz
  by_cases e : i = j
  · rw [if_pos e] at hz
    rw [← e, st_eq]
    by_cases g : i < L.length
    · rw [if_pos g] at hz; exact Option.some.inj hz
    · rw [if_neg g] at hz; cases hz
  · rw [if_neg e] at hz
    rw [st_nj (by omega)]; exact B j z hz
def bmM (b c a j : Int) : Prop := a = 52 ∧ 12000 * b ≤ j ∧ j < 12000 * b + c
theorem m_set2B {b v c : Int} {L : List Int} (i : Nat) (b0 : 0 ≤ b ∧ b < 120) (c0 : c ≤ 12000) (i0 : (i : Int) + 2 ≤ c) (B : BM w b L) : ∃ w1 : Mem, Ev gM 318 [vR 33 17, vI b, vI i, vI v] m w (.inl none) m w1 ∧ BM w1 b ((L.set i (i2b (isr v 8))).set (i + 1) (i2b v)) ∧ Fz (bmM b c) w w1 := by
  refine ⟨_, m_setTwo b0 (by omega), ?_, Fz_st (Fz_st Fz_0 (by unfold bmM; omega)) (by unfold bmM; omega)⟩
  have := BM_s (y := i2b v) (i := i + 1) (BM_s (y := i2b (isr v 8)) (i := i) B)
  rw [show 12000 * b + ((i + 1 : Nat) : Int) = 12000 * b + i + 1 by omega] at this
  exact this
theorem m_set4B {b v c : Int} {L : List Int} (i : Nat) (b0 : 0 ≤ b ∧ b < 120) (c0 : c ≤ 12000) (i0 : (i : Int) + 4 ≤ c) (B : BM w b L) : ∃ w1 : Mem, Ev gM 317 [vR 33 17, vI b, vI i, vL v] m w (.inl none) m w1 ∧ BM w1 b ((((L.set i (i2b (isr (wr (lsr v 16)) 8))).set (i + 1) (i2b (wr (lsr v 16)))).set (i + 2) (i2b (isr (wr v) 8))).set (i + 3) (i2b (wr v))) ∧ Fz (bmM b c) w w1 := by
  refine ⟨_, m_setFour b0 (by omega), ?_, Fz_st (Fz_st (Fz_st (Fz_st Fz_0 (by unfold bmM; omega)) (by unfold bmM; omega)) (by unfold bmM; omega)) (by unfold bmM; omega)⟩
  have := BM_s (y := i2b (wr v)) (i := i + 3) (BM_s (y := i2b (isr (wr v) 8)) (i := i + 2) (BM_s (y := i2b (wr (lsr v 16))) (i := i + 1) (BM_s (y := i2b (isr (wr (lsr v 16)) 8)) (i := i) B)))
  rw [show 12000 * b + ((i + 1 : Nat) : Int) = 12000 * b + i + 1 by omega, show 12000 * b + ((i + 2 : Nat) : Int) = 12000 * b + (i + 2) by omega, show 12000 * b + ((i + 3 : Nat) : Int) = 12000 * b + (i + 2) + 1 by omega] at this
  exact this
theorem m_mk_head {K : Qt → Int → Mem → Prop} {b : Int} (b0 : 0 ≤ b ∧ b < 120) (B0 : BM w b (List.replicate 54 0)) (fin : ∀ w1 : Mem, BM w1 b l_head → Fz (bmM b 54) w w1 → J2 A (fun Q => K Q m w1) Φ) : J2 A (fun Q => T gM 317 [vR 33 17, vI b, vI 0, vL 65536] m w (kV (thr Q) fun n h => T gM 317 [vR 33 17, vI b, vI 4, vL 65536] n h (kV (thr Q) fun n h => T gM 317 [vR 33 17, vI b, vI 12, vL 1594834165] n h (kV (thr Q) fun n h => T gM 318 [vR 33 17, vI b, vI 18, vI 1000] n h (kV (thr Q) fun n h => T gM 318 [vR 33 17, vI b, vI 46, vI 8] n h (kV (thr Q) fun n h => T gM 318 [vR 33 17, vI b, vI 48, vI 2] n h (kV (thr Q) fun n h => T gM 318 [vR 33 17, vI b, vI 50, vI 1] n h (kV (thr Q) fun n h => K Q n h)))))))) Φ := by
  obtain ⟨w1, ev1, B1, F1⟩ := m_set4B (m := m) (v := 65536) (c := 54) 0 b0 (by omega) (by omega) B0
  rw [bl4_65536.1, bl4_65536.2.1, bl4_65536.2.2.1, bl4_65536.2.2.2] at B1
  replace B1 : BM w1 b [0, 1, 0, 0, 0, 0, 0, 0, 0, 0, 0, 0, 0, 0, 0, 0, 0, 0, 0, 0, 0, 0, 0, 0, 0, 0, 0, 0, 0, 0, 0, 0, 0, 0, 0, 0, 0, 0, 0, 0, 0, 0, 0, 0, 0, 0, 0, 0, 0, 0, 0, 0, 0, 0] := B1
  refine J_RV ev1 ?_
  obtain ⟨w2, ev2, B2, F2⟩ := m_set4B (m := m) (v := 65536) (c := 54) 4 b0 (by omega) (by omega) B1
  rw [bl4_65536.1, bl4_65536.2.1, bl4_65536.2.2.1, bl4_65536.2.2.2] at B2
  replace B2 : BM w2 b [0, 1, 0, 0, 0, 1, 0, 0, 0, 0, 0, 0, 0, 0, 0, 0, 0, 0, 0, 0, 0, 0, 0, 0, 0, 0, 0, 0, 0, 0, 0, 0, 0, 0, 0, 0, 0, 0, 0, 0, 0, 0, 0, 0, 0, 0, 0, 0, 0, 0, 0, 0, 0, 0] := B2
  refine J_RV ev2 ?_
  obtain ⟨w3, ev3, B3, F3⟩ := m_set4B (m := m) (v := 1594834165) (c := 54) 12 b0 (by omega) (by omega) B2
  rw [bl4_mag.1, bl4_mag.2.1, bl4_mag.2.2.1, bl4_mag.2.2.2] at B3
  replace B3 : BM w3 b [0, 1, 0, 0, 0, 1, 0, 0, 0, 0, 0, 0, 95, 15, 60, -11, 0, 0, 0, 0, 0, 0, 0, 0, 0, 0, 0, 0, 0, 0, 0, 0, 0, 0, 0, 0, 0, 0, 0, 0, 0, 0, 0, 0, 0, 0, 0, 0, 0, 0, 0, 0, 0, 0] := B3
  refine J_RV ev3 ?_
  obtain ⟨w4, ev4, B4, F4⟩ := m_set2B (m := m) (v := 1000) (c := 54) 18 b0 (by omega) (by omega) B3
  rw [(List.cons.inj by2_1000).1, (List.cons.inj (List.cons.inj by2_1000).2).1] at B4
  replace B4 : BM w4 b [0, 1, 0, 0, 0, 1, 0, 0, 0, 0, 0, 0, 95, 15, 60, -11, 0, 0, 3, -24, 0, 0, 0, 0, 0, 0, 0, 0, 0, 0, 0, 0, 0, 0, 0, 0, 0, 0, 0, 0, 0, 0, 0, 0, 0, 0, 0, 0, 0, 0, 0, 0, 0, 0] := B4
  refine J_RV ev4 ?_
  obtain ⟨w5, ev5, B5, F5⟩ := m_set2B (m := m) (v := 8) (c := 54) 46 b0 (by omega) (by omega) B4
  rw [(List.cons.inj by2_8).1, (List.cons.inj (List.cons.inj by2_8).2).1] at B5
  replace B5 : BM w5 b [0, 1, 0, 0, 0, 1, 0, 0, 0, 0, 0, 0, 95, 15, 60, -11, 0, 0, 3, -24, 0, 0, 0, 0, 0, 0, 0, 0, 0, 0, 0, 0, 0, 0, 0, 0, 0, 0, 0, 0, 0, 0, 0, 0, 0, 0, 0, 8, 0, 0, 0, 0, 0, 0] := B5
  refine J_RV ev5 ?_
  obtain ⟨w6, ev6, B6, F6⟩ := m_set2B (m := m) (v := 2) (c := 54) 48 b0 (by omega) (by omega) B5
  rw [(List.cons.inj by2_2).1, (List.cons.inj (List.cons.inj by2_2).2).1] at B6
  replace B6 : BM w6 b [0, 1, 0, 0, 0, 1, 0, 0, 0, 0, 0, 0, 95, 15, 60, -11, 0, 0, 3, -24, 0, 0, 0, 0, 0, 0, 0, 0, 0, 0, 0, 0, 0, 0, 0, 0, 0, 0, 0, 0, 0, 0, 0, 0, 0, 0, 0, 8, 0, 2, 0, 0, 0, 0] := B6
  refine J_RV ev6 ?_
  obtain ⟨w7, ev7, B7, F7⟩ := m_set2B (m := m) (v := 1) (c := 54) 50 b0 (by omega) (by omega) B6
  rw [(List.cons.inj by2_1).1, (List.cons.inj (List.cons.inj by2_1).2).1] at B7
  replace B7 : BM w7 b [0, 1, 0, 0, 0, 1, 0, 0, 0, 0, 0, 0, 95, 15, 60, -11, 0, 0, 3, -24, 0, 0, 0, 0, 0, 0, 0, 0, 0, 0, 0, 0, 0, 0, 0, 0, 0, 0, 0, 0, 0, 0, 0, 0, 0, 0, 0, 8, 0, 2, 0, 1, 0, 0] := B7
  refine J_RV ev7 ?_
  exact fin w7 B7 (Fz_tr F1 (Fz_tr F2 (Fz_tr F3 (Fz_tr F4 (Fz_tr F5 (Fz_tr F6 (F7)))))))
theorem m_mk_hhea {K : Qt → Int → Mem → Prop} {b : Int} (b0 : 0 ≤ b ∧ b < 120) (B0 : BM w b (List.replicate 36 0)) (fin : ∀ w1 : Mem, BM w1 b l_hhea → Fz (bmM b 36) w w1 → J2 A (fun Q => K Q m w1) Φ) : J2 A (fun Q => T gM 317 [vR 33 17, vI b, vI 0, vL 65536] m w (kV (thr Q) fun n h => T gM 318 [vR 33 17, vI b, vI 34, vI 1] n h (kV (thr Q) fun n h => K Q n h))) Φ := by
  obtain ⟨w1, ev1, B1, F1⟩ := m_set4B (m := m) (v := 65536) (c := 36) 0 b0 (by omega) (by omega) B0
  rw [bl4_65536.1, bl4_65536.2.1, bl4_65536.2.2.1, bl4_65536.2.2.2] at B1
  replace B1 : BM w1 b [0, 1, 0, 0, 0, 0, 0, 0, 0, 0, 0, 0, 0, 0, 0, 0, 0, 0, 0, 0, 0, 0, 0, 0, 0, 0, 0, 0, 0, 0, 0, 0, 0, 0, 0, 0] := B1
  refine J_RV ev1 ?_
  obtain ⟨w2, ev2, B2, F2⟩ := m_set2B (m := m) (v := 1) (c := 36) 34 b0 (by omega) (by omega) B1
  rw [(List.cons.inj by2_1).1, (List.cons.inj (List.cons.inj by2_1).2).1] at B2
  replace B2 : BM w2 b [0, 1, 0, 0, 0, 0, 0, 0, 0, 0, 0, 0, 0, 0, 0, 0, 0, 0, 0, 0, 0, 0, 0, 0, 0, 0, 0, 0, 0, 0, 0, 0, 0, 0, 0, 1] := B2
  refine J_RV ev2 ?_
  exact fin w2 B2 (Fz_tr F1 (F2))
theorem m_mk_maxp {K : Qt → Int → Mem → Prop} {b : Int} (b0 : 0 ≤ b ∧ b < 120) (B0 : BM w b (List.replicate 6 0)) (fin : ∀ w1 : Mem, BM w1 b l_maxp → Fz (bmM b 6) w w1 → J2 A (fun Q => K Q m w1) Φ) : J2 A (fun Q => T gM 317 [vR 33 17, vI b, vI 0, vL 20480] m w (kV (thr Q) fun n h => T gM 318 [vR 33 17, vI b, vI 4, vI 1] n h (kV (thr Q) fun n h => K Q n h))) Φ := by
  obtain ⟨w1, ev1, B1, F1⟩ := m_set4B (m := m) (v := 20480) (c := 6) 0 b0 (by omega) (by omega) B0
  rw [bl4_20480.1, bl4_20480.2.1, bl4_20480.2.2.1, bl4_20480.2.2.2] at B1
  replace B1 : BM w1 b [0, 0, 80, 0, 0, 0] := B1
  refine J_RV ev1 ?_
  obtain ⟨w2, ev2, B2, F2⟩ := m_set2B (m := m) (v := 1) (c := 6) 4 b0 (by omega) (by omega) B1
  rw [(List.cons.inj by2_1).1, (List.cons.inj (List.cons.inj by2_1).2).1] at B2
  replace B2 : BM w2 b [0, 0, 80, 0, 0, 1] := B2
  refine J_RV ev2 ?_
  exact fin w2 B2 (Fz_tr F1 (F2))
end
