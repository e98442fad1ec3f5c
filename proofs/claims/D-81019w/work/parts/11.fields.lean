set_option maxRecDepth 100000
def tcode : FieldType → Nat
  | .int => 0 | .byte => 1 | .short => 2 | .boolean => 3 | .char => 4 | .long => 5
  | .object "java/lang/Object" => 43 | .object "FontHouse" => 6 | .object "FontHouse$Bytes" => 7 | .object "FontHouse$Store" => 8 | .object "FontHouse$Font" => 9 | .object "FontHouse$Opener" => 10 | .object "FontHouse$Codes" => 11 | .object "FontHouse$Maker" => 12 | .object "FontHouse$Bits" => 13 | .object "FontHouse$Made" => 14 | .object "FontHouse$Reader" => 15 | .object "FontHouse$View" => 16 | .object "FontHouse$Glyph" => 17 | .object "FontHouse$Turner" => 18 | .object "FontHouse$Packer" => 19 | .object "FontHouse$Entries" => 20 | .object "FontHouse$Unpacker" => 21 | .object "FontHouseModel" => 22
  | .array .int => 46 | .array .byte => 47 | .array .short => 48 | .array .long => 49 | .array .boolean => 50 | .array (.object "FontHouse$Bytes") => 51 | .array (.object "FontHouse$Font") => 52 | .array (.object "FontHouse$Made") => 53 | .array (.object "FontHouse$Mode") => 54
  | _ => 99
theorem sk_ty : ∀ c, c < 18 → ∀ j, j < clN c → sk c j = tcode (clTy c j) := by decide +kernel
theorem sk_len : ∀ c, c < 18 → (skT.getD c []).length = clN c := by decide +kernel
/-- the shape's own laws -/
def Gok (g : G) : Prop := (∀ a : Int, SB ≤ a → a < g.2.1 → ((g.1 a).1 < 18 ∧ (g.1 a).2 = clN (g.1 a).1) ∨ (40 ≤ (g.1 a).1 ∧ (g.1 a).1 < 49)) ∧ ∀ (c j : Nat) (d : Int), g.2.2 c j = some d → c < 18
/-- the value of a slot, on the stack -/
def gv (t : Nat) (x : Int) : V := if t < 5 then vI x else if t = 5 then vL x else vR (2 * (t - 6)) x
theorem cV_gv (γ : Int → Nat) (t : Nat) (x : Int) : cV γ (gv t x) = cS γ t x := by
  unfold gv cS
  by_cases h1 : t < 5
  · rw [if_pos h1, if_neg (by omega), if_pos h1]; rfl
  · rw [if_neg h1]
    by_cases h2 : t = 5
    · rw [if_pos h2, if_pos h2]; rfl
    · rw [if_neg h2, if_neg h2, if_neg h1]; rfl
theorem wtv_gv {S : Shp} {n : Int} {t : Nat} {x : Int} (h : wtv S n t x) : wtV S n (gv t x) := by
  unfold gv
  match t, h with
  | 0, h => exact h
  | 1, h => have h : -128 ≤ x ∧ x ≤ 127 := h
            show i32 x; unfold i32; omega
  | 2, h => have h : -32768 ≤ x ∧ x ≤ 32767 := h
            show i32 x; unfold i32; omega
  | 3, h => have h : 0 ≤ x ∧ x ≤ 1 := h
            show i32 x; unfold i32; omega
  | 4, h => have h : 0 ≤ x ∧ x ≤ 65535 := h
            show i32 x; unfold i32; omega
  | 5, h => exact h
  | c + 6, h =>
    rw [if_neg (by omega), if_neg (by omega)]
    have h : x = 0 ∨ rfit S n c x := h
    show (x = 0 ∧ 2 * (c + 6 - 6) % 2 = 0) ∨ rfit S n (2 * (c + 6 - 6) / 2) x
    have e : 2 * (c + 6 - 6) / 2 = c := by omega
    rw [e]
    rcases h with h | h
    · exact Or.inl ⟨h, by omega⟩
    · exact Or.inr h
/-- a value for a slot of code t, and what it must be -/
def pv (t : Nat) : V → Option (Prop × Int)
  | .inl x => match t with
    | 0 => some (True, x)
    | 1 => some (-128 ≤ x ∧ x ≤ 127, x)
    | 2 => some (-32768 ≤ x ∧ x ≤ 32767, x)
    | 3 => some (0 ≤ x ∧ x ≤ 1, x)
    | _ => none
  | .inr (.inl x) => if t = 5 then some (True, x) else none
  | .inr (.inr (d, x)) => if t = 6 + d / 2 then some (True, x) else none
theorem tc_inv (ty : FieldType) : (tcode ty = 0 → ty = .int) ∧ (tcode ty = 1 → ty = .byte) ∧ (tcode ty = 2 → ty = .short) ∧ (tcode ty = 3 → ty = .boolean) ∧ (tcode ty = 5 → ty = .long) ∧ (6 ≤ tcode ty → tcode ty ≠ 99 → (∃ C, ty = .object C) ∨ ∃ t, ty = .array t) := by
  unfold tcode
  split <;> simp_all
theorem pv_ok {t : Nat} {v : V} {c : Prop} {x : Int} {S : Shp} {n : Int} (h : pv t v = some (c, x)) (ht9 : t ≠ 99) (hc : c) (hw : wtV S n v) : wtv S n t x ∧ (∀ γ, cV γ v = cS γ t x) ∧ ∀ (γ : Int → Nat) (ty : FieldType), tcode ty = t → narrow ty (cV γ v) = cV γ v ∧ fits ty (cV γ v) = true := by
  rcases v with y | y | ⟨d, y⟩
  · have hw : i32 y := hw
    unfold pv at h
    match t, h with
    | 0, h =>
      simp only [Option.some.injEq, Prod.mk.injEq] at h; obtain ⟨-, rfl⟩ := h
      refine ⟨hw, fun γ => rfl, fun γ ty hty => ?_⟩
      obtain rfl := (tc_inv ty).1 hty
      exact ⟨rfl, rfl⟩
    | 1, h =>
      simp only [Option.some.injEq, Prod.mk.injEq] at h; obtain ⟨rfl, rfl⟩ := h
      refine ⟨hc, fun γ => rfl, fun γ ty hty => ?_⟩
      have e : (Int32.ofInt y).toInt8.toInt32 = Int32.ofInt y := by
        rw [Int32.toInt8_ofInt]; exact Int8.toInt32_ofInt hc.1 hc.2
      obtain rfl := (tc_inv ty).2.1 hty
      · refine ⟨?_, ?_⟩
        · show Value.int ((Int32.ofInt y).toInt8.toInt32) = .int (Int32.ofInt y)
          rw [e]
        · show fits .byte (.int (Int32.ofInt y)) = true
          rw [← e]; exact pk_fb _
    | 2, h =>
      simp only [Option.some.injEq, Prod.mk.injEq] at h; obtain ⟨rfl, rfl⟩ := h
      refine ⟨hc, fun γ => rfl, fun γ ty hty => ?_⟩
      have e : (Int32.ofInt y).toInt16.toInt32 = Int32.ofInt y := by
        rw [Int32.toInt16_ofInt]; exact Int16.toInt32_ofInt hc.1 hc.2
      obtain rfl := (tc_inv ty).2.2.1 hty
      · refine ⟨?_, ?_⟩
        · show Value.int ((Int32.ofInt y).toInt16.toInt32) = .int (Int32.ofInt y)
          rw [e]
        · show fits .short (.int (Int32.ofInt y)) = true
          rw [← e]; exact pk_fs _
    | 3, h =>
      simp only [Option.some.injEq, Prod.mk.injEq] at h; obtain ⟨rfl, rfl⟩ := h
      refine ⟨hc, fun γ => rfl, fun γ ty hty => ?_⟩
      have : y = 0 ∨ y = 1 := by omega
      obtain rfl := (tc_inv ty).2.2.2.1 hty
      rcases this with rfl | rfl <;> exact ⟨rfl, rfl⟩
    | t + 4, h => simp at h
  · have hw : i64 y := hw
    simp only [pv] at h
    split at h
    · rename_i ht
      simp only [Option.some.injEq, Prod.mk.injEq] at h; obtain ⟨-, rfl⟩ := h
      subst ht
      refine ⟨hw, fun γ => rfl, fun γ ty hty => ?_⟩
      obtain rfl := (tc_inv ty).2.2.2.2.1 hty
      exact ⟨rfl, rfl⟩
    · simp at h
  · simp only [pv] at h
    split at h
    · rename_i ht
      simp only [Option.some.injEq, Prod.mk.injEq] at h; obtain ⟨-, rfl⟩ := h
      subst ht
      refine ⟨?_, fun γ => ?_, fun γ ty hty => ?_⟩
      · have e : 6 + d / 2 = d / 2 + 6 := by omega
        rw [e]
        show y = 0 ∨ rfit S n (d / 2) y
        rcases hw with q | q
        · exact Or.inl q.1
        · exact Or.inr q
      · show cR γ y = cS γ (6 + d / 2) y
        unfold cS; rw [if_neg (by omega), if_neg (by omega)]
      · show narrow ty (cR γ y) = cR γ y ∧ fits ty (cR γ y) = true
        unfold cR
        rcases (tc_inv ty).2.2.2.2.2 (by omega) (by omega) with ⟨C, rfl⟩ | ⟨tt, rfl⟩ <;> (split <;> exact ⟨rfl, rfl⟩)
    · simp at h
theorem Mx.upd {g : G} {D : va_G} {dA : Nat → ClassId} {γ : Int → Nat} {A : Nat → Prop} {n : Int} {h h' : Mem} {H H' : Heap} (hM : Mx g D dA γ A n h H) {o : Int} (ho : SB ≤ o) (hon : o < n) (hc : Cl D dA g.1 γ h' H' o) (hz : H'.size = H.size) (hq : ∀ q : Nat, q ≠ γ o → H'[q]? = H[q]?) (hh : ∀ a j : Int, a ≠ o → h' a j = h a j)
    (hw : ∀ j : Nat, j < (g.1 o).2 → sk (g.1 o).1 j ≠ 99 → wtv g.1 n (sk (g.1 o).1 j) (h' o j)) (hf : ∀ (j : Nat) (d : Int), g.2.2 (g.1 o).1 j = some d → h' o j = o + d) : Mx g D dA γ A n h' H' := by
  obtain ⟨h1, h2, h3, h4, h5, h6, h7⟩ := hM
  refine ⟨h1, h2, h3, fun a ha hb => ?_, h5, fun a ha hb j hj hne => ?_, fun a j v ha hb e => ?_⟩
  · by_cases q : a = o
    · subst q
      exact ⟨hc, (h4 a ha hb).2.1, by rw [hz]; exact (h4 a ha hb).2.2⟩
    · refine ⟨?_, (h4 a ha hb).2.1, by rw [hz]; exact (h4 a ha hb).2.2⟩
      have h8 := (h4 a ha hb).1
      have hg : γ a ≠ γ o := fun e => q (h5 a o ha hb ho hon e)
      unfold Cl at h8 ⊢
      rw [hq _ hg]
      have e : ∀ j : Int, h' a j = h a j := fun j => hh a j q
      simp only [e]
      exact h8
  · by_cases q : a = o
    · subst q; exact hw j hj hne
    · rw [hh a j q]; exact h6 a ha hb j hj hne
  · by_cases q : a = o
    · subst q; exact hf j v e
    · rw [hh a j q]; exact h7 a j v ha hb e
def LkF (own : String) (idx c j : Nat) : Prop := (Cond.fieldLink own idx (clT c j).1 (clT c j).2.1 (clT c j).2.2.1) ∈ lw_mv ∨ ∃ host, (Cond.fieldLinkNest own idx (clT c j).1 (clT c j).2.1 (clT c j).2.2.1 host) ∈ lw_mv
/-- words of lw_all hold too -/
theorem Tx.all {U : State} (h : Tx U) (args : Array Value) : ∀ w ∈ lw_all, w.before args U = true := by
  intro w hw
  obtain ⟨h1, h2⟩ := List.mem_filter.mp hw
  refine h.use (lwm h1 ?_) args
  cases w with
  | arrayOver t => cases t <;> simp_all [mvT, mvW, goodWord]
  | _ => simp_all [mvT, mvW, goodWord]
