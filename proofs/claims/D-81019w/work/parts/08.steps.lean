set_option maxRecDepth 100000
def wr (z : Int) : Int := (Int32.ofInt z).toInt
def wl (z : Int) : Int := (Int64.ofInt z).toInt
def ian (x y : Int) : Int := (Int32.ofInt x &&& Int32.ofInt y).toInt
def ior (x y : Int) : Int := (Int32.ofInt x ||| Int32.ofInt y).toInt
def isl (x y : Int) : Int := (Int32.ofInt x <<< (Int32.ofInt y &&& 31)).toInt
def isr (x y : Int) : Int := (Int32.ofInt x >>> (Int32.ofInt y &&& 31)).toInt
def isu (x y : Int) : Int := (((Int32.ofInt x).toUInt32 >>> ((Int32.ofInt y).toUInt32 &&& Int32.toUInt32 31)).toInt32).toInt
def lan (x y : Int) : Int := (Int64.ofInt x &&& Int64.ofInt y).toInt
def lor (x y : Int) : Int := (Int64.ofInt x ||| Int64.ofInt y).toInt
def lsl (x y : Int) : Int := (Int64.ofInt x <<< ((Int32.ofInt y).toInt64 &&& 63)).toInt
def lsr (x y : Int) : Int := (Int64.ofInt x >>> ((Int32.ofInt y).toInt64 &&& 63)).toInt
def lsu (x y : Int) : Int := (((Int64.ofInt x).toUInt64 >>> ((Int32.ofInt y).toInt64.toUInt64 &&& Int64.toUInt64 63)).toInt64).toInt
def i2b (x : Int) : Int := ((Int32.ofInt x).toInt8.toInt32).toInt
def i2s (x : Int) : Int := ((Int32.ofInt x).toInt16.toInt32).toInt
def i2c (x : Int) : Int := (((Int32.ofInt x).toUInt32 % 65536).toInt32).toInt
def lcm (x y : Int) : Int := if y < x then 1 else if x = y then 0 else -1
theorem i32_of (x : Int32) : i32 x.toInt := by
  have h1 := x.le_toInt; have h2 := x.toInt_lt
  exact ⟨by omega, by omega⟩
theorem i64_of (x : Int64) : i64 x.toInt := by
  have h1 := x.le_toInt; have h2 := x.toInt_lt
  exact ⟨by omega, by omega⟩
theorem i32_to {x : Int} (h : i32 x) : (Int32.ofInt x).toInt = x := by
  unfold i32 at h
  exact Int32.toInt_ofInt_of_le (by omega) (by omega)
theorem i64_to {x : Int} (h : i64 x) : (Int64.ofInt x).toInt = x := by
  unfold i64 at h
  exact Int64.toInt_ofInt_of_le (by omega) (by omega)
theorem i32_inj {x y : Int} (hx : i32 x) (hy : i32 y) : Int32.ofInt x = Int32.ofInt y ↔ x = y := by
  rw [← Int32.toInt_inj, i32_to hx, i32_to hy]
theorem i32_lt {x y : Int} (hx : i32 x) (hy : i32 y) : Int32.ofInt x < Int32.ofInt y ↔ x < y := by
  rw [Int32.lt_iff_toInt_lt, i32_to hx, i32_to hy]
theorem i32_le {x y : Int} (hx : i32 x) (hy : i32 y) : Int32.ofInt x ≤ Int32.ofInt y ↔ x ≤ y := by
  rw [Int32.le_iff_toInt_le, i32_to hx, i32_to hy]
theorem i32_0 : i32 0 := ⟨by omega, by omega⟩
theorem wr_i {x : Int} (h : i32 x) : wr x = x := i32_to h
theorem wl_i {x : Int} (h : i64 x) : wl x = x := i64_to h
/-- a row of the machine that turns the stack alone -/
def Row (k pc pc' : Nat) (stk stk' : List V) : Prop := ∀ (γ : Int → Nat) (p : Program) (l : Launch) (e : Env) (R : Room) (s : State) (m : MethodId) (args : Array Value) (below : List Frame) (meth : Method) (c : Code) (H : Heap) (locs : List Loc) (cells slots : Nat) (Qq : State → Prop) (la : Array Slot),
  p.tables.exec = Jvm.exec → c.code = mC k → W p l e R s m args below meth c H locs cells slots Qq (F0 m pc' la (stk'.map (cV γ))) → W p l e R s m args below meth c H locs cells slots Qq (F0 m pc la (stk.map (cV γ)))
theorem T_pure {g : G} {k pc pc' : Nat} {ls : Lcs} {stk stk' : List V} {n : Int} {h : Mem} {Q : Out → Int → Mem → Prop} (row : Row k pc pc' stk stk') (hw : (∀ v ∈ stk, wtV g.1 n v) → ∀ v ∈ stk', wtV g.1 n v) (kk : T_at g k pc' ls stk' n h Q) : T_at g k pc ls stk n h Q :=
  fun p l e R s m args below meth c D dA A γ0 n0 γ H locs cells slots la hB hL hwl hws => row γ p l.1 e R s m args below meth c H locs cells slots _ la hB.1.1 hB.1.2.1 (kk p l e R s m args below meth c D dA A γ0 n0 γ H locs cells slots la hB hL hwl (hw hws))
section
variable {g : G} {k pc : Nat} {ls : Lcs} {st : List V} {n : Int} {h : Mem} {Q : Out → Int → Mem → Prop} {x y z : Int} {i : Instr}
theorem T_i (row : Row k pc (pc + 1) (vI y :: vI x :: st) (vI z :: st)) (hz : i32 z) (kk : T_at g k (pc + 1) ls (vI z :: st) n h Q) : T_at g k pc ls (vI y :: vI x :: st) n h Q :=
  T_pure row (fun hw v hv => by
    rcases List.mem_cons.mp hv with e | e
    · rw [e]; exact hz
    · exact hw v (by simp [e])) kk
theorem T_l (row : Row k pc (pc + 1) (vL y :: vL x :: st) (vL z :: st)) (hz : i64 z) (kk : T_at g k (pc + 1) ls (vL z :: st) n h Q) : T_at g k pc ls (vL y :: vL x :: st) n h Q :=
  T_pure row (fun hw v hv => by
    rcases List.mem_cons.mp hv with e | e
    · rw [e]; exact hz
    · exact hw v (by simp [e])) kk
theorem T_u {v : V} {z : V} {len : Nat} (row : Row k pc (pc + len) (v :: st) (z :: st)) (hz : ∀ S n, wtV S n v → wtV S n z) (kk : T_at g k (pc + len) ls (z :: st) n h Q) : T_at g k pc ls (v :: st) n h Q :=
  T_pure row (fun hw w hv => by
    rcases List.mem_cons.mp hv with e | e
    · rw [e]; exact hz _ _ (hw v (by simp))
    · exact hw w (by simp [e])) kk
theorem T_push {z : V} {len : Nat} (row : Row k pc (pc + len) st (z :: st)) (hz : wtV g.1 n z) (kk : T_at g k (pc + len) ls (z :: st) n h Q) : T_at g k pc ls st n h Q :=
  T_pure row (fun hw w hv => by
    rcases List.mem_cons.mp hv with e | e
    · rw [e]; exact hz
    · exact hw w e) kk
theorem T_iadd (hd : decode (mC k) pc = .ok (.iadd, 1)) (kk : T_at g k (pc + 1) ls (vI (wr (x + y)) :: st) n h Q) : T_at g k pc ls (vI y :: vI x :: st) n h Q :=
  T_i (fun γ p l e R s m args below meth c H locs cells slots Qq la hx hb kk => lv_iadd hx hb hd (by rw [← Int32.ofInt_add, ← Int32.ofInt_toInt (Int32.ofInt (x + y))]; exact kk)) (i32_of _) kk
theorem T_isub (hd : decode (mC k) pc = .ok (.isub, 1)) (kk : T_at g k (pc + 1) ls (vI (wr (x - y)) :: st) n h Q) : T_at g k pc ls (vI y :: vI x :: st) n h Q :=
  T_i (fun γ p l e R s m args below meth c H locs cells slots Qq la hx hb kk => lv_isub hx hb hd (by rw [← Int32.ofInt_sub, ← Int32.ofInt_toInt (Int32.ofInt (x - y))]; exact kk)) (i32_of _) kk
theorem T_imul (hd : decode (mC k) pc = .ok (.imul, 1)) (kk : T_at g k (pc + 1) ls (vI (wr (x * y)) :: st) n h Q) : T_at g k pc ls (vI y :: vI x :: st) n h Q :=
  T_i (fun γ p l e R s m args below meth c H locs cells slots Qq la hx hb kk => lv_imul hx hb hd (by rw [← Int32.ofInt_mul, ← Int32.ofInt_toInt (Int32.ofInt (x * y))]; exact kk)) (i32_of _) kk
theorem T_iand (hd : decode (mC k) pc = .ok (.iand, 1)) (kk : T_at g k (pc + 1) ls (vI (ian x y) :: st) n h Q) : T_at g k pc ls (vI y :: vI x :: st) n h Q :=
  T_i (fun γ p l e R s m args below meth c H locs cells slots Qq la hx hb kk => lv_iand hx hb hd (by rw [← Int32.ofInt_toInt (Int32.ofInt x &&& Int32.ofInt y)]; exact kk)) (i32_of _) kk
theorem T_ior (hd : decode (mC k) pc = .ok (.ior, 1)) (kk : T_at g k (pc + 1) ls (vI (ior x y) :: st) n h Q) : T_at g k pc ls (vI y :: vI x :: st) n h Q :=
  T_i (fun γ p l e R s m args below meth c H locs cells slots Qq la hx hb kk => lv_ior hx hb hd (by rw [← Int32.ofInt_toInt (Int32.ofInt x ||| Int32.ofInt y)]; exact kk)) (i32_of _) kk
theorem T_ishl (hd : decode (mC k) pc = .ok (.ishl, 1)) (kk : T_at g k (pc + 1) ls (vI (isl x y) :: st) n h Q) : T_at g k pc ls (vI y :: vI x :: st) n h Q :=
  T_i (fun γ p l e R s m args below meth c H locs cells slots Qq la hx hb kk => lv_ishl hx hb hd (by rw [← Int32.ofInt_toInt (Int32.ofInt x <<< (Int32.ofInt y &&& 31))]; exact kk)) (i32_of _) kk
theorem T_ishr (hd : decode (mC k) pc = .ok (.ishr, 1)) (kk : T_at g k (pc + 1) ls (vI (isr x y) :: st) n h Q) : T_at g k pc ls (vI y :: vI x :: st) n h Q :=
  T_i (fun γ p l e R s m args below meth c H locs cells slots Qq la hx hb kk => lv_ishr hx hb hd (by rw [← Int32.ofInt_toInt (Int32.ofInt x >>> (Int32.ofInt y &&& 31))]; exact kk)) (i32_of _) kk
theorem T_iushr (hd : decode (mC k) pc = .ok (.iushr, 1)) (kk : T_at g k (pc + 1) ls (vI (isu x y) :: st) n h Q) : T_at g k pc ls (vI y :: vI x :: st) n h Q :=
  T_i (fun γ p l e R s m args below meth c H locs cells slots Qq la hx hb kk => lv_iushr hx hb hd (Int32.ofInt_toInt _).symm kk) (i32_of _) kk
theorem i32_ne0 (hy : y ≠ 0) (hy2 : i32 y) : ¬ Int32.ofInt y = 0 := fun q => hy ((i32_inj hy2 i32_0).mp q)
theorem T_idiv (hd : decode (mC k) pc = .ok (.idiv, 1)) (hy : y ≠ 0) (hxr : i32 x) (hyr : i32 y) (hz : i32 (x.tdiv y)) (kk : T_at g k (pc + 1) ls (vI (x.tdiv y) :: st) n h Q) : T_at g k pc ls (vI y :: vI x :: st) n h Q :=
  T_i (fun γ p l e R s m args below meth c H locs cells slots Qq la hx hb kk => lv_idiv hx hb hd (i32_ne0 hy hyr) (by
    have e : Int32.ofInt x / Int32.ofInt y = Int32.ofInt (x.tdiv y) := by
      rw [← Int32.toInt_inj, Int32.toInt_div, i32_to hxr, i32_to hyr, i32_to hz]
      unfold i32 at hz
      exact Int.bmod_eq_of_le (by omega) (by omega)
    rw [e]; exact kk)) hz kk
theorem T_irem (hd : decode (mC k) pc = .ok (.irem, 1)) (hy : y ≠ 0) (hxr : i32 x) (hyr : i32 y) (hz : i32 (x.tmod y)) (kk : T_at g k (pc + 1) ls (vI (x.tmod y) :: st) n h Q) : T_at g k pc ls (vI y :: vI x :: st) n h Q :=
  T_i (fun γ p l e R s m args below meth c H locs cells slots Qq la hx hb kk => lv_irem hx hb hd (i32_ne0 hy hyr) (by
    have e : Int32.ofInt x - Int32.ofInt x / Int32.ofInt y * Int32.ofInt y = Int32.ofInt (x.tmod y) := by
      have e1 : Int32.ofInt x / Int32.ofInt y = Int32.ofInt (x.tdiv y) := by
        rw [← Int32.toInt_inj, Int32.toInt_div, i32_to hxr, i32_to hyr, Int32.toInt_ofInt]
      rw [e1, ← Int32.ofInt_mul, ← Int32.ofInt_sub, Int.tmod_def, Int.mul_comm]
    rw [e]; exact kk)) hz kk
end
section
variable {g : G} {k pc : Nat} {ls : Lcs} {st : List V} {n : Int} {h : Mem} {Q : Out → Int → Mem → Prop} {x y z : Int} {v w u : V}
theorem T_ladd (hd : decode (mC k) pc = .ok (.ladd, 1)) (kk : T_at g k (pc + 1) ls (vL (wl (x + y)) :: st) n h Q) : T_at g k pc ls (vL y :: vL x :: st) n h Q :=
  T_l (fun γ p l e R s m args below meth c H locs cells slots Qq la hx hb kk => lv_ladd hx hb hd (by rw [← Int64.ofInt_add, ← Int64.ofInt_toInt (Int64.ofInt (x + y))]; exact kk)) (i64_of _) kk
theorem T_lsub (hd : decode (mC k) pc = .ok (.lsub, 1)) (kk : T_at g k (pc + 1) ls (vL (wl (x - y)) :: st) n h Q) : T_at g k pc ls (vL y :: vL x :: st) n h Q :=
  T_l (fun γ p l e R s m args below meth c H locs cells slots Qq la hx hb kk => lv_lsub hx hb hd (by rw [← Int64.ofInt_sub, ← Int64.ofInt_toInt (Int64.ofInt (x - y))]; exact kk)) (i64_of _) kk
theorem T_lmul (hd : decode (mC k) pc = .ok (.lmul, 1)) (kk : T_at g k (pc + 1) ls (vL (wl (x * y)) :: st) n h Q) : T_at g k pc ls (vL y :: vL x :: st) n h Q :=
  T_l (fun γ p l e R s m args below meth c H locs cells slots Qq la hx hb kk => lv_lmul hx hb hd (by rw [← Int64.ofInt_mul, ← Int64.ofInt_toInt (Int64.ofInt (x * y))]; exact kk)) (i64_of _) kk
theorem T_land (hd : decode (mC k) pc = .ok (.land, 1)) (kk : T_at g k (pc + 1) ls (vL (lan x y) :: st) n h Q) : T_at g k pc ls (vL y :: vL x :: st) n h Q :=
  T_l (fun γ p l e R s m args below meth c H locs cells slots Qq la hx hb kk => lv_land hx hb hd (by rw [← Int64.ofInt_toInt (Int64.ofInt x &&& Int64.ofInt y)]; exact kk)) (i64_of _) kk
theorem T_lor (hd : decode (mC k) pc = .ok (.lor, 1)) (kk : T_at g k (pc + 1) ls (vL (lor x y) :: st) n h Q) : T_at g k pc ls (vL y :: vL x :: st) n h Q :=
  T_l (fun γ p l e R s m args below meth c H locs cells slots Qq la hx hb kk => lv_lor hx hb hd (by rw [← Int64.ofInt_toInt (Int64.ofInt x ||| Int64.ofInt y)]; exact kk)) (i64_of _) kk
theorem i64_ne0 (hy : y ≠ 0) (hy2 : i64 y) : ¬ Int64.ofInt y = 0 := fun q => hy (by have := congrArg Int64.toInt q; rw [i64_to hy2] at this; simpa using this)
theorem T_ldiv (hd : decode (mC k) pc = .ok (.ldiv, 1)) (hy : y ≠ 0) (hxr : i64 x) (hyr : i64 y) (hz : i64 (x.tdiv y)) (kk : T_at g k (pc + 1) ls (vL (x.tdiv y) :: st) n h Q) : T_at g k pc ls (vL y :: vL x :: st) n h Q :=
  T_l (fun γ p l e R s m args below meth c H locs cells slots Qq la hx hb kk => lv_ldiv hx hb hd (i64_ne0 hy hyr) (by
    have e : Int64.ofInt x / Int64.ofInt y = Int64.ofInt (x.tdiv y) := by
      rw [← Int64.toInt_inj, Int64.toInt_div, i64_to hxr, i64_to hyr, Int64.toInt_ofInt]
    rw [e]; exact kk)) hz kk
theorem T_lrem (hd : decode (mC k) pc = .ok (.lrem, 1)) (hy : y ≠ 0) (hxr : i64 x) (hyr : i64 y) (hz : i64 (x.tmod y)) (kk : T_at g k (pc + 1) ls (vL (x.tmod y) :: st) n h Q) : T_at g k pc ls (vL y :: vL x :: st) n h Q :=
  T_l (fun γ p l e R s m args below meth c H locs cells slots Qq la hx hb kk => lv_lrem hx hb hd (i64_ne0 hy hyr) (by
    have e : Int64.ofInt x - Int64.ofInt x / Int64.ofInt y * Int64.ofInt y = Int64.ofInt (x.tmod y) := by
      have e1 : Int64.ofInt x / Int64.ofInt y = Int64.ofInt (x.tdiv y) := by
        rw [← Int64.toInt_inj, Int64.toInt_div, i64_to hxr, i64_to hyr, Int64.toInt_ofInt]
      rw [e1, ← Int64.ofInt_mul, ← Int64.ofInt_sub, Int.tmod_def, Int.mul_comm]
    rw [e]; exact kk)) hz kk
theorem T_lshl (hd : decode (mC k) pc = .ok (.lshl, 1)) (kk : T_at g k (pc + 1) ls (vL (lsl x y) :: st) n h Q) : T_at g k pc ls (vI y :: vL x :: st) n h Q :=
  T_pure (fun γ p l e R s m args below meth c H locs cells slots Qq la hx hb kk => lv_lshl hx hb hd (Int64.ofInt_toInt _).symm kk) (fun hw v hv => by
    rcases List.mem_cons.mp hv with e | e
    · rw [e]; exact i64_of _
    · exact hw v (by simp [e])) kk
theorem T_lshr (hd : decode (mC k) pc = .ok (.lshr, 1)) (kk : T_at g k (pc + 1) ls (vL (lsr x y) :: st) n h Q) : T_at g k pc ls (vI y :: vL x :: st) n h Q :=
  T_pure (fun γ p l e R s m args below meth c H locs cells slots Qq la hx hb kk => lv_lshr hx hb hd (Int64.ofInt_toInt _).symm kk) (fun hw v hv => by
    rcases List.mem_cons.mp hv with e | e
    · rw [e]; exact i64_of _
    · exact hw v (by simp [e])) kk
theorem T_lushr (hd : decode (mC k) pc = .ok (.lushr, 1)) (kk : T_at g k (pc + 1) ls (vL (lsu x y) :: st) n h Q) : T_at g k pc ls (vI y :: vL x :: st) n h Q :=
  T_pure (fun γ p l e R s m args below meth c H locs cells slots Qq la hx hb kk => lv_lushr hx hb hd (Int64.ofInt_toInt _).symm kk) (fun hw v hv => by
    rcases List.mem_cons.mp hv with e | e
    · rw [e]; exact i64_of _
    · exact hw v (by simp [e])) kk
theorem T_ineg (hd : decode (mC k) pc = .ok (.ineg, 1)) (kk : T_at g k (pc + 1) ls (vI (wr (-x)) :: st) n h Q) : T_at g k pc ls (vI x :: st) n h Q :=
  T_u (z := vI (wr (-x))) (len := 1) (fun γ p l e R s m args below meth c H locs cells slots Qq la hx hb kk => lv_ineg hx hb hd (by rw [← Int32.ofInt_neg, ← Int32.ofInt_toInt (Int32.ofInt (-x))]; exact kk)) (fun _ _ _ => i32_of _) kk
theorem T_i2l (hd : decode (mC k) pc = .ok (.i2l, 1)) (hxr : i32 x) (kk : T_at g k (pc + 1) ls (vL x :: st) n h Q) : T_at g k pc ls (vI x :: st) n h Q :=
  T_u (z := vL x) (len := 1) (fun γ p l e R s m args below meth c H locs cells slots Qq la hx hb kk => lv_i2l hx hb hd (by rw [← Int64.toInt_inj, Int32.toInt_toInt64, i32_to hxr, i64_to (by unfold i32 at hxr; unfold i64; omega)]) kk) (fun _ _ hw => by
    have hw : i32 x := hw
    unfold i32 at hw
    show i64 x
    unfold i64; omega) kk
theorem T_l2i (hd : decode (mC k) pc = .ok (.l2i, 1)) (kk : T_at g k (pc + 1) ls (vI (wr x) :: st) n h Q) : T_at g k pc ls (vL x :: st) n h Q :=
  T_u (z := vI (wr x)) (len := 1) (fun γ p l e R s m args below meth c H locs cells slots Qq la hx hb kk => lv_l2i hx hb hd (by rw [Int64.toInt32_ofInt]; exact (Int32.ofInt_toInt _).symm) kk) (fun _ _ _ => i32_of _) kk
theorem T_i2b (hd : decode (mC k) pc = .ok (.i2b, 1)) (kk : T_at g k (pc + 1) ls (vI (i2b x) :: st) n h Q) : T_at g k pc ls (vI x :: st) n h Q :=
  T_u (z := vI (i2b x)) (len := 1) (fun γ p l e R s m args below meth c H locs cells slots Qq la hx hb kk => lv_i2b hx hb hd (Int32.ofInt_toInt _).symm kk) (fun _ _ _ => i32_of _) kk
theorem T_i2s (hd : decode (mC k) pc = .ok (.i2s, 1)) (kk : T_at g k (pc + 1) ls (vI (i2s x) :: st) n h Q) : T_at g k pc ls (vI x :: st) n h Q :=
  T_u (z := vI (i2s x)) (len := 1) (fun γ p l e R s m args below meth c H locs cells slots Qq la hx hb kk => lv_i2s hx hb hd (Int32.ofInt_toInt _).symm kk) (fun _ _ _ => i32_of _) kk
theorem T_i2c (hd : decode (mC k) pc = .ok (.i2c, 1)) (kk : T_at g k (pc + 1) ls (vI (i2c x) :: st) n h Q) : T_at g k pc ls (vI x :: st) n h Q :=
  T_u (z := vI (i2c x)) (len := 1) (fun γ p l e R s m args below meth c H locs cells slots Qq la hx hb kk => lv_i2c hx hb hd (Int32.ofInt_toInt _).symm kk) (fun _ _ _ => i32_of _) kk
theorem T_lcmp (hd : decode (mC k) pc = .ok (.lcmp, 1)) (hxr : i64 x) (hyr : i64 y) (kk : T_at g k (pc + 1) ls (vI (lcm x y) :: st) n h Q) : T_at g k pc ls (vL y :: vL x :: st) n h Q :=
  T_pure (fun γ p l e R s m args below meth c H locs cells slots Qq la hx hb kk => W.lcmp hx hb hd (by
    have e : lg_cmp (Int64.ofInt x) (Int64.ofInt y) = Int32.ofInt (lcm x y) := by
      unfold lg_cmp lcm
      have e1 : (Int64.ofInt x > Int64.ofInt y) ↔ y < x := by
        show (Int64.ofInt y < Int64.ofInt x) ↔ _
        rw [Int64.lt_iff_toInt_lt, i64_to hxr, i64_to hyr]
      have e2 : (Int64.ofInt x = Int64.ofInt y) ↔ x = y := by
        rw [← Int64.toInt_inj, i64_to hxr, i64_to hyr]
      by_cases q1 : y < x
      · rw [if_pos (e1.mpr q1), if_pos q1]; rfl
      · rw [if_neg (fun q => q1 (e1.mp q)), if_neg q1]
        by_cases q2 : x = y
        · rw [if_pos (e2.mpr q2), if_pos q2]; rfl
        · rw [if_neg (fun q => q2 (e2.mp q)), if_neg q2]; rfl
    rw [e]; exact kk)) (fun hw v hv => by
    rcases List.mem_cons.mp hv with e | e
    · rw [e]; show i32 (lcm x y); unfold lcm i32; split
      · omega
      · split <;> omega
    · exact hw v (by simp [e])) kk
theorem T_iconst {c : Int} (hd : decode (mC k) pc = .ok (.iconst c, 1)) (hc : i32 c) (kk : T_at g k (pc + 1) ls (vI c :: st) n h Q) : T_at g k pc ls st n h Q :=
  T_push (z := vI c) (len := 1) (fun γ p l e R s m args below meth cc H locs cells slots Qq la hx hb kk => lv_iconst hx hb hd rfl kk) hc kk
theorem T_bipush {c : Int} (hd : decode (mC k) pc = .ok (.bipush c, 2)) (hc : -128 ≤ c ∧ c ≤ 127) (kk : T_at g k (pc + 2) ls (vI c :: st) n h Q) : T_at g k pc ls st n h Q :=
  T_push (z := vI c) (len := 2) (fun γ p l e R s m args below meth cc H locs cells slots Qq la hx hb kk => lv_bipush hx hb hd (Int8.toInt32_ofInt hc.1 hc.2) kk) (by show i32 c; unfold i32; omega) kk
theorem T_sipush {c : Int} (hd : decode (mC k) pc = .ok (.sipush c, 3)) (hc : -32768 ≤ c ∧ c ≤ 32767) (kk : T_at g k (pc + 3) ls (vI c :: st) n h Q) : T_at g k pc ls st n h Q :=
  T_push (z := vI c) (len := 3) (fun γ p l e R s m args below meth cc H locs cells slots Qq la hx hb kk => lv_sipush hx hb hd (Int16.toInt32_ofInt hc.1 hc.2) kk) (by show i32 c; unfold i32; omega) kk
theorem T_lconst {c : Fin 2} (hd : decode (mC k) pc = .ok (.lconst c, 1)) (kk : T_at g k (pc + 1) ls (vL ((c : Nat) : Int) :: st) n h Q) : T_at g k pc ls st n h Q :=
  T_push (z := vL ((c : Nat) : Int)) (len := 1) (fun γ p l e R s m args below meth cc H locs cells slots Qq la hx hb kk => lv_lconst hx hb hd rfl kk) (by show i64 _; unfold i64; omega) kk
theorem T_null {kd : Nat} (hd : decode (mC k) pc = .ok (.aconst_null, 1)) (kk : T_at g k (pc + 1) ls (vR (2 * kd) 0 :: st) n h Q) : T_at g k pc ls st n h Q :=
  T_push (z := vR (2 * kd) 0) (len := 1) (fun γ p l e R s m args below meth c H locs cells slots Qq la hx hb kk => lv_null hx hb hd kk) (Or.inl ⟨rfl, by omega⟩) kk
theorem cat1_of (γ : Int → Nat) (hv : (match v with | .inr (.inl _) => 2 | _ => 1 : Nat) = 1) : (cV γ v).category = 1 := (cV_cat1 γ v).trans hv
theorem T_dup (hd : decode (mC k) pc = .ok (.dup, 1)) (hv : (match v with | .inr (.inl _) => 2 | _ => 1 : Nat) = 1) (kk : T_at g k (pc + 1) ls (v :: v :: st) n h Q) : T_at g k pc ls (v :: st) n h Q :=
  T_pure (fun γ p l e R s m args below meth c H locs cells slots Qq la hx hb kk => lv_dup hx hb hd (cat1_of γ hv) kk) (fun hw u hu => hw u (by simp at hu ⊢; exact hu)) kk
theorem T_pop (hd : decode (mC k) pc = .ok (.pop, 1)) (hv : (match v with | .inr (.inl _) => 2 | _ => 1 : Nat) = 1) (kk : T_at g k (pc + 1) ls st n h Q) : T_at g k pc ls (v :: st) n h Q :=
  T_pure (fun γ p l e R s m args below meth c H locs cells slots Qq la hx hb kk => lv_pop hx hb hd (cat1_of γ hv) kk) (fun hw u hu => hw u (by simp [hu])) kk
theorem T_dup_x1 (hd : decode (mC k) pc = .ok (.dup_x1, 1)) (hv : (match v with | .inr (.inl _) => 2 | _ => 1 : Nat) = 1) (hw : (match w with | .inr (.inl _) => 2 | _ => 1 : Nat) = 1) (kk : T_at g k (pc + 1) ls (v :: w :: v :: st) n h Q) : T_at g k pc ls (v :: w :: st) n h Q :=
  T_pure (fun γ p l e R s m args below meth c H locs cells slots Qq la hx hb kk => lv_dup_x1 hx hb hd (cat1_of γ hv) (cat1_of γ hw) kk) (fun hw u hu => hw u (by simp at hu ⊢; rcases hu with e | e | e | e <;> simp [e])) kk
theorem T_dup_x2 (hd : decode (mC k) pc = .ok (.dup_x2, 1)) (hv : (match v with | .inr (.inl _) => 2 | _ => 1 : Nat) = 1) (hw : (match w with | .inr (.inl _) => 2 | _ => 1 : Nat) = 1) (hu : (match u with | .inr (.inl _) => 2 | _ => 1 : Nat) = 1) (kk : T_at g k (pc + 1) ls (v :: w :: u :: v :: st) n h Q) : T_at g k pc ls (v :: w :: u :: st) n h Q :=
  T_pure (fun γ p l e R s m args below meth c H locs cells slots Qq la hx hb kk => lv_dup_x2 hx hb hd (cat1_of γ hv) (cat1_of γ hw) (cat1_of γ hu) kk) (fun hw u hu => hw u (by simp at hu ⊢; rcases hu with e | e | e | e | e <;> simp [e])) kk
theorem T_dup2 (hd : decode (mC k) pc = .ok (.dup2, 1)) (hv : (match v with | .inr (.inl _) => 2 | _ => 1 : Nat) = 1) (hw : (match w with | .inr (.inl _) => 2 | _ => 1 : Nat) = 1) (kk : T_at g k (pc + 1) ls (v :: w :: v :: w :: st) n h Q) : T_at g k pc ls (v :: w :: st) n h Q :=
  T_pure (fun γ p l e R s m args below meth c H locs cells slots Qq la hx hb kk => lv_dup2_11 hx hb hd (cat1_of γ hv) (cat1_of γ hw) kk) (fun hw u hu => hw u (by simp at hu ⊢; rcases hu with e | e | e | e | e <;> simp [e])) kk
theorem T_dup2L (hd : decode (mC k) pc = .ok (.dup2, 1)) (kk : T_at g k (pc + 1) ls (vL x :: vL x :: st) n h Q) : T_at g k pc ls (vL x :: st) n h Q :=
  T_pure (fun γ p l e R s m args below meth c H locs cells slots Qq la hx hb kk => lv_dup2_2 hx hb hd rfl kk) (fun hw u hu => hw u (by simp at hu ⊢; exact hu)) kk
end
