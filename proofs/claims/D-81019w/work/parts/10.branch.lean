set_option maxRecDepth 100000
section
variable {g : G} {k pc : Nat} {ls : Lcs} {st : List V} {n : Int} {h : Mem} {Q : Out → Int → Mem → Prop} {x y z : Int} {v w u : V}
theorem lpairs_at {γ : Int → Nat} {ls : Lcs} {i : Nat} {v : V} (h : ls[i]? = some (some v)) : ∃ q : Nat, (lpairs γ ls)[q]? = some (i, cV γ v) :=
  List.getElem?_of_mem (lpairs_mem.mpr ⟨v, h, rfl⟩)
theorem T_iinc {i : Nat} {c : Int} (hd : decode (mC k) pc = .ok (.iinc i c, 3)) (hi : i < mL k) (hl : ls[i]? = some (some (vI x))) (kk : T_at g k (pc + 3) (stl ls i (vI (wr (x + c)))) st n h Q) : T_at g k pc ls st n h Q :=
  fun p l e R s m args below meth cc D dA A γ0 n0 γ H locs cells slots la hB hL hwl hws => by
    obtain ⟨q, hq⟩ := lpairs_at (γ := γ) hl
    exact lv_iinc (v := Int32.ofInt (wr (x + c))) hB.1.1 hB.1.2.1 hd hL.has (k := q) hq (by unfold wr; rw [Int32.ofInt_toInt, Int32.ofInt_add]) hi rfl (fun la' h' => kk p l e R s m args below meth cc D dA A γ0 n0 γ H locs cells slots la' hB (Lx.set1 (v := vI (wr (x + c))) (fun _ => by simp) h') (stl_wt hwl (i32_of _)) hws)
theorem T_iincW {i : Nat} {c : Int} (hd : decode (mC k) pc = .ok (.iinc i c, 6)) (hi : i < mL k) (hl : ls[i]? = some (some (vI x))) (kk : T_at g k (pc + 6) (stl ls i (vI (wr (x + c)))) st n h Q) : T_at g k pc ls st n h Q :=
  fun p l e R s m args below meth cc D dA A γ0 n0 γ H locs cells slots la hB hL hwl hws => by
    obtain ⟨q, hq⟩ := lpairs_at (γ := γ) hl
    exact lv_iincW (v := Int32.ofInt (wr (x + c))) hB.1.1 hB.1.2.1 hd hL.has (k := q) hq (by unfold wr; rw [Int32.ofInt_toInt, Int32.ofInt_add]) hi rfl (fun la' h' => kk p l e R s m args below meth cc D dA A γ0 n0 γ H locs cells slots la' hB (Lx.set1 (v := vI (wr (x + c))) (fun _ => by simp) h') (stl_wt hwl (i32_of _)) hws)
/-- a branch, by its row -/
theorem T_br {tgt : Nat} {l0 : List V} {c : Prop} (hw0 : ∀ u ∈ st, u ∈ l0) (row : ∀ (γ : Int → Nat) (p : Program) (l : Launch) (e : Env) (R : Room) (s : State) (m : MethodId) (args : Array Value) (below : List Frame) (meth : Method) (cc : Code) (H : Heap) (locs : List Loc) (cells slots : Nat) (Qq : State → Prop) (la : Array Slot),
    p.tables.exec = Jvm.exec → cc.code = mC k → (∀ u ∈ l0, wtV g.1 n u) → (∀ a b : Int, rfit g.1 n 1 a → rfit g.1 n 1 b → γ a = γ b → a = b) → (c → W p l e R s m args below meth cc H locs cells slots Qq (F0 m tgt la (st.map (cV γ)))) → (¬ c → W p l e R s m args below meth cc H locs cells slots Qq (F0 m (pc + 3) la (st.map (cV γ)))) → W p l e R s m args below meth cc H locs cells slots Qq (F0 m pc la (l0.map (cV γ))))
    (kt : c → T_at g k tgt ls st n h Q) (kf : ¬ c → T_at g k (pc + 3) ls st n h Q) : T_at g k pc ls l0 n h Q :=
  fun p l e R s m args below meth cc D dA A γ0 n0 γ H locs cells slots la hB hL hwl hws =>
    have hM : Mx g D dA γ A n h H := hB.2.2.2.2.2.2
    row γ p l.1 e R s m args below meth cc H locs cells slots _ la hB.1.1 hB.1.2.1 hws
    (fun a b ha hb e => hM.2.2.2.2.1 a b (hM.obj (by decide) ha).1 (hM.obj (by decide) ha).2.1 (hM.obj (by decide) hb).1 (hM.obj (by decide) hb).2.1 e)
    (fun hc => kt hc p l e R s m args below meth cc D dA A γ0 n0 γ H locs cells slots la hB hL hwl (fun u hu => hws u (hw0 u hu)))
    (fun hc => kf hc p l e R s m args below meth cc D dA A γ0 n0 γ H locs cells slots la hB hL hwl (fun u hu => hws u (hw0 u hu)))
theorem T_icmp_eq {off : Int} {tgt : Nat} (hd : decode (mC k) pc = .ok (.if_icmp .eq off, 3)) (ht : (pc : Int) + off = (tgt : Int)) (kt : x = y → T_at g k tgt ls st n h Q) (kf : ¬ (x = y) → T_at g k (pc + 3) ls st n h Q) : T_at g k pc ls (vI y :: vI x :: st) n h Q :=
  T_br (fun u hu => by simp [hu]) (fun γ p l e R s m args below meth cc H locs cells slots Qq la hx hb hw hi kt kf => lv_icmp_eq hx hb hd ht (fun q => kt ((i32_inj (hw (vI x) (by simp)) (hw (vI y) (by simp))).mp q)) (fun q => kf (fun z => q ((i32_inj (hw (vI x) (by simp)) (hw (vI y) (by simp))).mpr z)))) kt kf
theorem T_if_eq {off : Int} {tgt : Nat} (hd : decode (mC k) pc = .ok (.ifCond .eq off, 3)) (ht : (pc : Int) + off = (tgt : Int)) (kt : x = 0 → T_at g k tgt ls st n h Q) (kf : ¬ (x = 0) → T_at g k (pc + 3) ls st n h Q) : T_at g k pc ls (vI x :: st) n h Q :=
  T_br (fun u hu => by simp [hu]) (fun γ p l e R s m args below meth cc H locs cells slots Qq la hx hb hw hi kt kf => lv_if_eq hx hb hd ht (fun q => kt ((i32_inj (hw (vI x) (by simp)) i32_0).mp q)) (fun q => kf (fun z => q ((i32_inj (hw (vI x) (by simp)) i32_0).mpr z)))) kt kf
theorem T_icmp_ne {off : Int} {tgt : Nat} (hd : decode (mC k) pc = .ok (.if_icmp .ne off, 3)) (ht : (pc : Int) + off = (tgt : Int)) (kt : ¬ x = y → T_at g k tgt ls st n h Q) (kf : ¬ (¬ x = y) → T_at g k (pc + 3) ls st n h Q) : T_at g k pc ls (vI y :: vI x :: st) n h Q :=
  T_br (fun u hu => by simp [hu]) (fun γ p l e R s m args below meth cc H locs cells slots Qq la hx hb hw hi kt kf => lv_icmp_ne hx hb hd ht (fun q => kt ((not_congr (i32_inj (hw (vI x) (by simp)) (hw (vI y) (by simp)))).mp q)) (fun q => kf (fun z => z ((i32_inj (hw (vI x) (by simp)) (hw (vI y) (by simp))).mp q)))) kt kf
theorem T_if_ne {off : Int} {tgt : Nat} (hd : decode (mC k) pc = .ok (.ifCond .ne off, 3)) (ht : (pc : Int) + off = (tgt : Int)) (kt : ¬ x = 0 → T_at g k tgt ls st n h Q) (kf : ¬ (¬ x = 0) → T_at g k (pc + 3) ls st n h Q) : T_at g k pc ls (vI x :: st) n h Q :=
  T_br (fun u hu => by simp [hu]) (fun γ p l e R s m args below meth cc H locs cells slots Qq la hx hb hw hi kt kf => lv_if_ne hx hb hd ht (fun q => kt ((not_congr (i32_inj (hw (vI x) (by simp)) i32_0)).mp q)) (fun q => kf (fun z => z ((i32_inj (hw (vI x) (by simp)) i32_0).mp q)))) kt kf
theorem T_icmp_lt {off : Int} {tgt : Nat} (hd : decode (mC k) pc = .ok (.if_icmp .lt off, 3)) (ht : (pc : Int) + off = (tgt : Int)) (kt : x < y → T_at g k tgt ls st n h Q) (kf : ¬ (x < y) → T_at g k (pc + 3) ls st n h Q) : T_at g k pc ls (vI y :: vI x :: st) n h Q :=
  T_br (fun u hu => by simp [hu]) (fun γ p l e R s m args below meth cc H locs cells slots Qq la hx hb hw hi kt kf => lv_icmp_lt hx hb hd ht (fun q => kt ((i32_lt (hw (vI x) (by simp)) (hw (vI y) (by simp))).mp q)) (fun q => kf (fun z => q ((i32_lt (hw (vI x) (by simp)) (hw (vI y) (by simp))).mpr z)))) kt kf
theorem T_if_lt {off : Int} {tgt : Nat} (hd : decode (mC k) pc = .ok (.ifCond .lt off, 3)) (ht : (pc : Int) + off = (tgt : Int)) (kt : x < 0 → T_at g k tgt ls st n h Q) (kf : ¬ (x < 0) → T_at g k (pc + 3) ls st n h Q) : T_at g k pc ls (vI x :: st) n h Q :=
  T_br (fun u hu => by simp [hu]) (fun γ p l e R s m args below meth cc H locs cells slots Qq la hx hb hw hi kt kf => lv_if_lt hx hb hd ht (fun q => kt ((i32_lt (hw (vI x) (by simp)) i32_0).mp q)) (fun q => kf (fun z => q ((i32_lt (hw (vI x) (by simp)) i32_0).mpr z)))) kt kf
theorem T_icmp_ge {off : Int} {tgt : Nat} (hd : decode (mC k) pc = .ok (.if_icmp .ge off, 3)) (ht : (pc : Int) + off = (tgt : Int)) (kt : y ≤ x → T_at g k tgt ls st n h Q) (kf : ¬ (y ≤ x) → T_at g k (pc + 3) ls st n h Q) : T_at g k pc ls (vI y :: vI x :: st) n h Q :=
  T_br (fun u hu => by simp [hu]) (fun γ p l e R s m args below meth cc H locs cells slots Qq la hx hb hw hi kt kf => lv_icmp_ge hx hb hd ht (fun q => kt ((i32_le (hw (vI y) (by simp)) (hw (vI x) (by simp))).mp q)) (fun q => kf (fun z => q ((i32_le (hw (vI y) (by simp)) (hw (vI x) (by simp))).mpr z)))) kt kf
theorem T_if_ge {off : Int} {tgt : Nat} (hd : decode (mC k) pc = .ok (.ifCond .ge off, 3)) (ht : (pc : Int) + off = (tgt : Int)) (kt : 0 ≤ x → T_at g k tgt ls st n h Q) (kf : ¬ (0 ≤ x) → T_at g k (pc + 3) ls st n h Q) : T_at g k pc ls (vI x :: st) n h Q :=
  T_br (fun u hu => by simp [hu]) (fun γ p l e R s m args below meth cc H locs cells slots Qq la hx hb hw hi kt kf => lv_if_ge hx hb hd ht (fun q => kt ((i32_le i32_0 (hw (vI x) (by simp))).mp q)) (fun q => kf (fun z => q ((i32_le i32_0 (hw (vI x) (by simp))).mpr z)))) kt kf
theorem T_icmp_gt {off : Int} {tgt : Nat} (hd : decode (mC k) pc = .ok (.if_icmp .gt off, 3)) (ht : (pc : Int) + off = (tgt : Int)) (kt : y < x → T_at g k tgt ls st n h Q) (kf : ¬ (y < x) → T_at g k (pc + 3) ls st n h Q) : T_at g k pc ls (vI y :: vI x :: st) n h Q :=
  T_br (fun u hu => by simp [hu]) (fun γ p l e R s m args below meth cc H locs cells slots Qq la hx hb hw hi kt kf => lv_icmp_gt hx hb hd ht (fun q => kt ((i32_lt (hw (vI y) (by simp)) (hw (vI x) (by simp))).mp q)) (fun q => kf (fun z => q ((i32_lt (hw (vI y) (by simp)) (hw (vI x) (by simp))).mpr z)))) kt kf
theorem T_if_gt {off : Int} {tgt : Nat} (hd : decode (mC k) pc = .ok (.ifCond .gt off, 3)) (ht : (pc : Int) + off = (tgt : Int)) (kt : 0 < x → T_at g k tgt ls st n h Q) (kf : ¬ (0 < x) → T_at g k (pc + 3) ls st n h Q) : T_at g k pc ls (vI x :: st) n h Q :=
  T_br (fun u hu => by simp [hu]) (fun γ p l e R s m args below meth cc H locs cells slots Qq la hx hb hw hi kt kf => lv_if_gt hx hb hd ht (fun q => kt ((i32_lt i32_0 (hw (vI x) (by simp))).mp q)) (fun q => kf (fun z => q ((i32_lt i32_0 (hw (vI x) (by simp))).mpr z)))) kt kf
theorem T_icmp_le {off : Int} {tgt : Nat} (hd : decode (mC k) pc = .ok (.if_icmp .le off, 3)) (ht : (pc : Int) + off = (tgt : Int)) (kt : x ≤ y → T_at g k tgt ls st n h Q) (kf : ¬ (x ≤ y) → T_at g k (pc + 3) ls st n h Q) : T_at g k pc ls (vI y :: vI x :: st) n h Q :=
  T_br (fun u hu => by simp [hu]) (fun γ p l e R s m args below meth cc H locs cells slots Qq la hx hb hw hi kt kf => lv_icmp_le hx hb hd ht (fun q => kt ((i32_le (hw (vI x) (by simp)) (hw (vI y) (by simp))).mp q)) (fun q => kf (fun z => q ((i32_le (hw (vI x) (by simp)) (hw (vI y) (by simp))).mpr z)))) kt kf
theorem T_if_le {off : Int} {tgt : Nat} (hd : decode (mC k) pc = .ok (.ifCond .le off, 3)) (ht : (pc : Int) + off = (tgt : Int)) (kt : x ≤ 0 → T_at g k tgt ls st n h Q) (kf : ¬ (x ≤ 0) → T_at g k (pc + 3) ls st n h Q) : T_at g k pc ls (vI x :: st) n h Q :=
  T_br (fun u hu => by simp [hu]) (fun γ p l e R s m args below meth cc H locs cells slots Qq la hx hb hw hi kt kf => lv_if_le hx hb hd ht (fun q => kt ((i32_le (hw (vI x) (by simp)) i32_0).mp q)) (fun q => kf (fun z => q ((i32_le (hw (vI x) (by simp)) i32_0).mpr z)))) kt kf
theorem T_goto {off : Int} {tgt : Nat} (hd : decode (mC k) pc = .ok (.goto off, 3)) (ht : (pc : Int) + off = (tgt : Int)) (kk : T_at g k tgt ls st n h Q) : T_at g k pc ls st n h Q :=
  T_pure (fun γ p l e R s m args below meth c H locs cells slots Qq la hx hb kk => lv_goto hx hb hd ht kk) (fun hw => hw) kk
theorem cR_rf (γ : Int → Nat) (x : Int) : cR γ x = va_rf (if x = 0 then none else some (γ x)) := by
  unfold cR va_rf; split <;> rfl
theorem T_acmp_eq {off : Int} {tgt d d' : Nat} (hd : decode (mC k) pc = .ok (.if_acmp .eq off, 3)) (ht : (pc : Int) + off = (tgt : Int)) (hd1 : d / 2 = 1) (hd2 : d' / 2 = 1) (kt : x = y → T_at g k tgt ls st n h Q) (kf : ¬ x = y → T_at g k (pc + 3) ls st n h Q) : T_at g k pc ls (vR d' y :: vR d x :: st) n h Q :=
  T_br (fun u hu => by simp [hu]) (fun γ p l e R s m args below meth cc H locs cells slots Qq la hx hb hw hi kt kf => by
    have e : ((if x = 0 then none else some (γ x)) = (if y = 0 then none else some (γ y))) ↔ x = y := by
      have hwx := hw (vR d x) (by simp); have hwy := hw (vR d' y) (by simp)
      simp only [wtV, hd1, hd2] at hwx hwy
      constructor
      · intro q
        rcases hwx with hwx | hwx <;> rcases hwy with hwy | hwy
        · omega
        · rw [if_pos hwx.1, if_neg (by have := hwy.1; omega)] at q; simp at q
        · rw [if_neg (by have := hwx.1; omega), if_pos hwy.1] at q; simp at q
        · rw [if_neg (by have := hwx.1; omega), if_neg (by have := hwy.1; omega)] at q
          exact hi x y hwx hwy (Option.some.inj q)
      · intro q; rw [q]
    show W _ _ _ _ _ _ _ _ _ _ _ _ _ _ _ (F0 m pc la (cR γ y :: cR γ x :: st.map (cV γ)))
    rw [cR_rf, cR_rf]
    exact lv_acmp_eq hx hb hd ht (fun q => kt (e.mp q)) (fun q => kf (fun z => q (e.mpr z)))) kt kf
theorem T_acmp_ne {off : Int} {tgt d d' : Nat} (hd : decode (mC k) pc = .ok (.if_acmp .ne off, 3)) (ht : (pc : Int) + off = (tgt : Int)) (hd1 : d / 2 = 1) (hd2 : d' / 2 = 1) (kt : ¬ x = y → T_at g k tgt ls st n h Q) (kf : ¬ ¬ x = y → T_at g k (pc + 3) ls st n h Q) : T_at g k pc ls (vR d' y :: vR d x :: st) n h Q :=
  T_br (fun u hu => by simp [hu]) (fun γ p l e R s m args below meth cc H locs cells slots Qq la hx hb hw hi kt kf => by
    have e : ((if x = 0 then none else some (γ x)) = (if y = 0 then none else some (γ y))) ↔ x = y := by
      have hwx := hw (vR d x) (by simp); have hwy := hw (vR d' y) (by simp)
      simp only [wtV, hd1, hd2] at hwx hwy
      constructor
      · intro q
        rcases hwx with hwx | hwx <;> rcases hwy with hwy | hwy
        · omega
        · rw [if_pos hwx.1, if_neg (by have := hwy.1; omega)] at q; simp at q
        · rw [if_neg (by have := hwx.1; omega), if_pos hwy.1] at q; simp at q
        · rw [if_neg (by have := hwx.1; omega), if_neg (by have := hwy.1; omega)] at q
          exact hi x y hwx hwy (Option.some.inj q)
      · intro q; rw [q]
    show W _ _ _ _ _ _ _ _ _ _ _ _ _ _ _ (F0 m pc la (cR γ y :: cR γ x :: st.map (cV γ)))
    rw [cR_rf, cR_rf]
    exact lv_acmp_ne hx hb hd ht (fun q => kt (fun z => q (e.mpr z))) (fun q => kf (fun z => z (e.mp q)))) kt kf
theorem T_ifnonnull {off : Int} {tgt d : Nat} (hd : decode (mC k) pc = .ok (.ifnonnull off, 3)) (ht : (pc : Int) + off = (tgt : Int)) (kt : ¬ x = 0 → T_at g k tgt ls st n h Q) (kf : ¬ ¬ x = 0 → T_at g k (pc + 3) ls st n h Q) : T_at g k pc ls (vR d x :: st) n h Q :=
  T_br (fun u hu => by simp [hu]) (fun γ p l e R s m args below meth cc H locs cells slots Qq la hx hb hw hi kt kf => by
    show W _ _ _ _ _ _ _ _ _ _ _ _ _ _ _ (F0 m pc la (cR γ x :: st.map (cV γ)))
    unfold cR
    by_cases q : x = 0
    · rw [if_pos q]; exact lv_ifnonnullN hx hb hd (kf (fun z => z q))
    · rw [if_neg q]; exact lv_ifnonnull hx hb hd ht (kt q)) kt kf
theorem T_ifnull {off : Int} {tgt d : Nat} (hd : decode (mC k) pc = .ok (.ifnull off, 3)) (ht : (pc : Int) + off = (tgt : Int)) (kt : x = 0 → T_at g k tgt ls st n h Q) (kf : ¬ x = 0 → T_at g k (pc + 3) ls st n h Q) : T_at g k pc ls (vR d x :: st) n h Q :=
  T_br (fun u hu => by simp [hu]) (fun γ p l e R s m args below meth cc H locs cells slots Qq la hx hb hw hi kt kf => by
    show W _ _ _ _ _ _ _ _ _ _ _ _ _ _ _ (F0 m pc la (cR γ x :: st.map (cV γ)))
    unfold cR
    by_cases q : x = 0
    · rw [if_pos q]; exact lv_ifnullN hx hb hd ht (kt q)
    · rw [if_neg q]; exact lv_ifnull hx hb hd (kf q)) kt kf
theorem T_tableOut {dflt lo hi : Int} {offs : Array Int} {len tgt : Nat} (hd : decode (mC k) pc = .ok (.tableswitch dflt lo hi offs, len)) (hc : x < lo ∨ hi < x) (ht : (pc : Int) + dflt = (tgt : Int)) (kk : T_at g k tgt ls st n h Q) : T_at g k pc ls (vI x :: st) n h Q :=
  fun p l e R s m args below meth cc D dA A γ0 n0 γ H locs cells slots la hB hL hwl hws => by
    have hxr : i32 x := hws (vI x) (by simp)
    exact lv_tableOut hB.1.1 hB.1.2.1 hd (by rw [i32_to hxr]; exact hc) ht (kk p l e R s m args below meth cc D dA A γ0 n0 γ H locs cells slots la hB hL hwl (fun u hu => hws u (by simp [hu])))
theorem T_tableIn {dflt lo hi off : Int} {offs : Array Int} {len tgt : Nat} (hd : decode (mC k) pc = .ok (.tableswitch dflt lo hi offs, len)) (hc1 : ¬ x < lo) (hc2 : ¬ hi < x) (ho : offs[(x - lo).toNat]? = some off) (ht : (pc : Int) + off = (tgt : Int)) (kk : T_at g k tgt ls st n h Q) : T_at g k pc ls (vI x :: st) n h Q :=
  fun p l e R s m args below meth cc D dA A γ0 n0 γ H locs cells slots la hB hL hwl hws => by
    have hxr : i32 x := hws (vI x) (by simp)
    exact lv_tableIn hB.1.1 hB.1.2.1 hd (by rw [i32_to hxr]; exact hc1) (by rw [i32_to hxr]; exact hc2) (by rw [i32_to hxr]; exact ho) ht (kk p l e R s m args below meth cc D dA A γ0 n0 γ H locs cells slots la hB hL hwl (fun u hu => hws u (by simp [hu])))
theorem T_lookup {dflt off : Int} {ps : Array (Int × Int)} {len tgt : Nat} (hd : decode (mC k) pc = .ok (.lookupswitch dflt ps, len)) (hp : (ps.toList.zip (ps.toList.drop 1)).all (fun (a, next) => a.1 < next.1) = true) (ho : Op.lookupswitch.offset ps.toList dflt x = off) (ht : (pc : Int) + off = (tgt : Int)) (kk : T_at g k tgt ls st n h Q) : T_at g k pc ls (vI x :: st) n h Q :=
  fun p l e R s m args below meth cc D dA A γ0 n0 γ H locs cells slots la hB hL hwl hws => by
    have hxr : i32 x := hws (vI x) (by simp)
    exact lv_lookup hB.1.1 hB.1.2.1 hd hp (by rw [i32_to hxr]; exact ho) ht (kk p l e R s m args below meth cc D dA A γ0 n0 γ H locs cells slots la hB hL hwl (fun u hu => hws u (by simp [hu])))
end
