set_option maxRecDepth 100000
theorem f2_inv {x y v : Int} (bx : -128 ≤ x ∧ x ≤ 127) (b2 : -128 ≤ y ∧ y ≤ 127) (e : 256 * (x % 256) + y % 256 = v) : f2 v = [x, y] := by
  unfold f2
  rw [isr_eq (by omega) (by omega), wr_id (by constructor <;> omega), i2b_eq, i2b_eq, show (2 : Int) ^ (8 : Int).toNat = 256 from rfl, show (v / 256 + 128) % 256 - 128 = x by omega, show (v + 128) % 256 - 128 = y by omega]
theorem f2_ins {x y v : Int} (bx : -128 ≤ x ∧ x ≤ 127) (b2 : -128 ≤ y ∧ y ≤ 127) (e : i2s (256 * (x % 256) + y % 256) = v) : f2 v = [x, y] := by
  rw [i2s_eq] at e
  unfold f2
  rw [isr_eq (by omega) (by omega), wr_id (by constructor <;> omega), i2b_eq, i2b_eq, show (2 : Int) ^ (8 : Int).toNat = 256 from rfl, show (v / 256 + 128) % 256 - 128 = x by omega, show (v + 128) % 256 - 128 = y by omega]
theorem slc_2 (f : Int → Int) (o : Int) : slc f o (2 : Int).toNat = [f o, f (o + 1)] := by
  show slc f o 2 = _
  rw [slc, slc, slc]; simp
/-- the raw bytes of a part are its bytes laid anew -/
theorem raw_1 {f : Int → Int} {w : Mem} {o p N : Int} (P : PRW f o p w) (ep : w 79 p = scl (w 75 p)) (o0 : 0 ≤ o) (oN : o + psz (w 75 p) ≤ N) (bf : ∀ i, 0 ≤ i → i < N → -128 ≤ f i ∧ f i ≤ 127) : slc f o (psz (w 75 p)).toNat = enc1 w p := by
  obtain ⟨r1, r2, r3, r4⟩ := P
  have sr := scl_r (w 75 p)
  have pw : psz (w 75 p) = 4 + (if w 75 p % 2 = 1 then 4 else 2) + 2 * scl (w 75 p) := rfl
  have sc : ∀ (b : Int), 0 ≤ b → b + 2 * scl (w 75 p) ≤ N → (∀ t, 0 ≤ t → t < scl (w 75 p) → u2f f (b + 2 * t) = w 80 (4 * p + t)) → ∀ t : Nat, (t : Int) ≤ scl (w 75 p) → slc f b (2 * (t : Int)).toNat = scL w p t := by
    intro b b0 bN u t
    induction t with
    | zero => intro _; rfl
    | succ t ih =>
      intro ht
      rw [scL, ← ih (by omega), show (2 * ((t + 1 : Nat) : Int)).toNat = (2 * (t : Int) + 2).toNat by omega, ← slc_ai (by omega) (by omega), slc_2]
      rw [f2_inv (bf (b + 2 * t) (by omega) (by omega)) (bf (b + 2 * t + 1) (by omega) (by omega)) (u t (by omega) (by omega))]
  unfold enc1
  rw [f2_inv (bf o o0 (by omega)) (bf (o + 1) (by omega) (by omega)) r1, f2_inv (bf (o + 2) (by omega) (by omega)) (bf (o + 2 + 1) (by omega) (by omega)) r2, ep, pw]
  rcases r3 with ⟨q, s1, s2⟩ | ⟨q, s1, s2⟩
  · rw [if_pos q] at pw r4
    rw [if_pos q, if_pos q, ← sc (o + 4 + 4) (by omega) (by omega) r4 (scl (w 75 p)).toNat (by omega)]
    rw [f2_ins (bf (o + 4) (by omega) (by omega)) (bf (o + 4 + 1) (by omega) (by omega)) s1, f2_ins (bf (o + 6) (by omega) (by omega)) (bf (o + 6 + 1) (by omega) (by omega)) s2]
    rw [show 4 + 4 + 2 * scl (w 75 p) = 2 + (2 + (2 + (2 + 2 * scl (w 75 p)))) by omega, ← slc_ai (by omega) (by omega), ← slc_ai (by omega) (by omega), ← slc_ai (by omega) (by omega), ← slc_ai (by omega) (by omega), slc_2, slc_2, slc_2, slc_2]
    rw [show o + 2 + 2 = o + 4 by omega, show o + 4 + 2 = o + 6 by omega, show o + 6 + 2 = o + 4 + 4 by omega, show 2 * (((scl (w 75 p)).toNat : Nat) : Int) = 2 * scl (w 75 p) by omega]
    simp
  · rw [if_neg (by omega)] at pw r4
    rw [if_neg (by omega), if_neg (by omega), ← sc (o + 4 + 2) (by omega) (by omega) r4 (scl (w 75 p)).toNat (by omega)]
    have y1 := bf (o + 4) (by omega) (by omega)
    have y2 := bf (o + 5) (by omega) (by omega)
    have z1 : i2b (w 77 p) = f (o + 4) := by rw [← s1, i2b_2, i2b_eq]; omega
    have z2 : i2b (w 78 p) = f (o + 5) := by rw [← s2, i2b_2, i2b_eq]; omega
    rw [z1, z2]
    rw [show 4 + 2 + 2 * scl (w 75 p) = 2 + (2 + (2 + 2 * scl (w 75 p))) by omega, ← slc_ai (by omega) (by omega), ← slc_ai (by omega) (by omega), ← slc_ai (by omega) (by omega), slc_2, slc_2, slc_2]
    rw [show o + 2 + 2 = o + 4 by omega, show o + 4 + 1 = o + 5 by omega, show 2 * (((scl (w 75 p)).toNat : Nat) : Int) = 2 * scl (w 75 p) by omega]
    simp
/-- and of all parts -/
theorem raw_P {al c : Int} {h w : Mem} (P : PTS al c h w) (c0 : 0 ≤ c ∧ c ≤ 16) : slc (h 378) 0 (h 377 1).toNat = encP w c.toNat := by
  obtain ⟨P1, P2, P3⟩ := P
  have key : ∀ k : Nat, (k : Int) ≤ c → pqo (w 75) k ≤ pqo (w 75) c.toNat := by
    have : ∀ d k : Nat, pqo (w 75) k ≤ pqo (w 75) (k + d) := by
      intro d
      induction d with
      | zero => intro k; exact Int.le_refl _
      | succ d ih => intro k; have := ih k; have := psz_r (w 75 ((k + d : Nat) : Int)); show _ ≤ pqo (w 75) (k + d) + psz (w 75 ((k + d : Nat) : Int)); omega
    intro k hk
    have := this (c.toNat - k) k
    rw [show k + (c.toNat - k) = c.toNat by omega] at this
    exact this
  rw [P2]
  have all : ∀ k : Nat, (k : Int) ≤ c → slc (h 378) 0 (pqo (w 75) k).toNat = encP w k := by
    intro k
    induction k with
    | zero => intro _; rfl
    | succ k ih =>
      intro hk
      have pr := pqo_r (w 75) k
      have zr := psz_r (w 75 k)
      have km := key (k + 1) hk
      have ek : pqo (w 75) (k + 1) = pqo (w 75) k + psz (w 75 k) := rfl
      rw [encP, ← ih (by omega), ek, ← slc_ai pr.1 (by omega)]
      congr 1
      rw [show (0 : Int) + pqo (w 75) k = pqo (w 75) k by omega]
      exact raw_1 (N := pqo (w 75) c.toNat) (P1 k (by omega)).2 (P1 k (by omega)).1.2.2.2.2.1 pr.1 (by omega) (fun i a b => P3 i a (by omega))
  exact all c.toNat (by omega)
