set_option maxRecDepth 100000
/-- back from a call, whichever way it ended -/
theorem cal_back {p : Program} {l : Lch} {e : Env} {R : Room} {s : State} {m : MethodId} {args : Array Value} {below : List Frame} {meth : Method} {c : Code} {U : State} {locs : List Loc} {cells slots : Nat}
    (X : Stand p l.1 e R s m args below meth c U locs cells slots) {g : G} {av : List V} {n : Int} {Q : Out → Int → Mem → Prop}
    {D : va_G} {dA : Nat → ClassId} {γ : Int → Nat} {A : Nat → Prop} {gf : JFrame} (hg : gf.method = m) {ig : Instr} {len : Nat} (hdg : decode c.code gf.pc = .ok (ig, len)) {mk : MethodId} {o : Outcome} {s₂ : State} {RC RS : Nat}
    (hsteps : Steps p.tables e below (doInvoke e (U.setTop gf) [] mk (av.map (cV γ)).toArray).1 s₂) (hend : Ended s₂ (.java gf :: U.frames.tail) o) (hq : Rend g D dA γ A n Q RC RS (U.calling gf mk (av.map (cV γ)).toArray) o s₂) :
    ∃ (o' : Out) (n' : Int) (h' : Mem) (γ' : Int → Nat) (L : List Loc) (kc ks : Nat) (U' : State), Q o' n' h' ∧ wtO g n' o' ∧ n ≤ n' ∧ (∀ a, a < n → γ' a = γ a) ∧ Mx g D dA γ' A n' h' U'.heap ∧
      kc + (g.2.1 - n').toNat ≤ RC ∧ ks + slN g.1 n' g.2.1 ≤ RS ∧ (∀ q ∈ L, A q.base) ∧ U.heap.size ≤ U'.heap.size ∧ (∀ q : Nat, q < U.heap.size → ¬ A q → U'.heap[q]? = U.heap[q]?) ∧
      Stand p l.1 e R s m args below meth c U' (locs ++ L) (cells + kc) (slots + ks) ∧
      Steps p.tables e below (doInvoke e (U.setTop gf) [] mk (av.map (cV γ)).toArray).1 (match o' with
        | .inl r => U'.setTop { gf with pc := gf.pc + len, stack := (r.map (cV γ')).toList ++ gf.stack }
        | .inr a => (U'.setTop gf).pushFrame (.throwing (γ' a))) := by
  have hAt : At U gf.method c below := by rw [hg]; exact X.here
  obtain ⟨o', n', h', γ', L, kc, ks, hQ, ho, hwo, hnn, hγ, hM', hW₂, hsame, hkc, hks, hL, hF⟩ := hq
  have hsame : (U.calling gf mk (av.map (cV γ)).toArray).sameButNew ({ s₂ with vm := (U.calling gf mk (av.map (cV γ)).toArray).vm } : State) L kc ks := hsame
  have hW₂ : (U.calling gf mk (av.map (cV γ)).toArray).WarmedH s₂.vm := hW₂
  have hF' : U.heap.size ≤ s₂.heap.size ∧ ∀ q : Nat, q < U.heap.size → ¬ A q → s₂.heap[q]? = U.heap[q]? := hF
  rcases o' with r | a
  · have ho' : o = .returned (r.map (cV γ')) := by rw [ho]; cases r <;> rfl
    subst ho'
    obtain ⟨e2, q2, q3, q4, q5, q6⟩ := id hsame
    have e3 : s₂ = ({ (U.calling gf mk (av.map (cV γ)).toArray).setFrames s₂.frames with heap := s₂.heap, slotsUsed := s₂.slotsUsed } : State).setVm s₂.vm := by
      have : s₂ = ({ s₂ with vm := (U.calling gf mk (av.map (cV γ)).toArray).vm } : State).setVm s₂.vm := rfl
      rw [e2] at this
      exact this
    obtain ⟨c₂, i₂, len₂, hc₂, hd₂, hf₂⟩ := hend
    have hW' : U.WarmedH s₂.vm := hW₂
    have hcc : c₂ = c := by
      have h1 : s₂.code? gf.method = U.code? gf.method := by
        rw [State.code?_eq, State.code?_eq, hW'.alike.method?]
      exact Option.some.inj (hc₂.symm.trans (h1.trans hAt.code))
    subst hcc
    have hlen : len₂ = len := by rw [hdg] at hd₂; cases hd₂; rfl
    subst hlen
    obtain ⟨g₀, hg0⟩ := Option.isSome_iff_exists.mp hAt.top
    obtain ⟨rr, hr⟩ := State.topJava?_eq_some.mp hg0
    have hs₂ : s₂ = (({ U with heap := s₂.heap, slotsUsed := s₂.slotsUsed } : State).setVm s₂.vm).setTop { gf with pc := gf.pc + len₂, stack := (r.map (cV γ')).toList ++ gf.stack } := by
      have hr' : (({ U with heap := s₂.heap, slotsUsed := s₂.slotsUsed } : State).setVm s₂.vm).frames = .java g₀ :: rr := hr
      refine e3.trans ?_
      rw [hf₂, State.calling_eq hAt.top, State.setFrames_setFrames, State.setTop_of_frames _ hr', hr]
      rfl
    have hsame' : U.sameButNew ({ U with heap := s₂.heap, slotsUsed := s₂.slotsUsed } : State) L kc ks := by
      refine ⟨?_, q2, q3, q4, q5, q6⟩
      obtain ⟨t, ht, -⟩ := State.frames_cons hr
      show ({ U with heap := s₂.heap, slotsUsed := s₂.slotsUsed } : State) = { U.setFrames U.frames with heap := s₂.heap, slotsUsed := s₂.slotsUsed }
      rw [State.setFrames_self ht]
    subst hg
    refine ⟨.inl r, n', h', γ', L, kc, ks, ({ U with heap := s₂.heap, slotsUsed := s₂.slotsUsed } : State).setVm s₂.vm, hQ, hwo, hnn, hγ, hM', hkc, hks, hL, hF'.1, hF'.2,
      ⟨X.admits, X.cas, X.clock, X.frames, X.room, X.hears, X.method, X.code, (X.here.setHeapUsed s₂.heap s₂.slotsUsed).setVm hW'.alike, X.tail, State.WarmedH.trans X.warmed hW', X.limits, X.bytes, X.same.trans (hsame'.setVm s.vm)⟩, ?_⟩
    show Steps p.tables e below _ ((({ U with heap := s₂.heap, slotsUsed := s₂.slotsUsed } : State).setVm s₂.vm).setTop { gf with pc := gf.pc + len₂, stack := (r.map (cV γ')).toList ++ gf.stack })
    rw [← hs₂]
    exact hsteps
  · have ho' : o = .threw (γ' a) := ho
    subst ho'
    have htl : U.frames.tail = below := X.tail
    obtain ⟨U', X', hWU, hsU, ht⟩ := X.outOfThrown (g := gf) hg (mk := mk) (a := (av.map (cV γ)).toArray) (t := s₂) (x := γ' a) (L := L) (k := kc) (n := ks) (by rw [htl] at hend; exact hend) hW₂ hsame
    have hh : s₂.heap = U'.heap := by rw [ht]; rfl
    rw [hh] at hF' hM'
    refine ⟨.inr a, n', h', γ', L, kc, ks, U', hQ, hwo, hnn, hγ, hM', hkc, hks, hL, hF'.1, hF'.2, X', ?_⟩
    show Steps p.tables e below _ ((U'.setTop gf).pushFrame (.throwing (γ' a)))
    rw [← ht]
    exact hsteps
/-- a call of method k by its contract, whichever way it ends -/
theorem cal_run {p : Program} {l : Lch} {e : Env} {R : Room} {s : State} {m : MethodId} {args : Array Value} {below : List Frame} {meth : Method} {c : Code} {U : State} {locs : List Loc} {cells slots : Nat}
    (X : Stand p l.1 e R s m args below meth c U locs cells slots) {g : G} {k : Nat} {av : List V} {n : Int} {h : Mem} {Q : Out → Int → Mem → Prop} (hT : T g k av n h Q)
    {D : va_G} {dA : Nat → ClassId} {γ : Int → Nat} {A : Nat → Prop} (hC : Cx D dA γ A U) (hM : Mx g D dA γ A n h U.heap) (hA : ∀ q : Nat, U.heap.size ≤ q → A q) (hw : ∀ v ∈ av, wtV g.1 n v)
    (hcw : (mW k) ∈ lw_mv) (hin : (Cond.initialized (mY k).cls) ∈ lw_mv) {gf : JFrame} (hg : gf.method = m) (hsize : gf.locals.size = c.maxLocals) {ig : Instr} {len : Nat} (hdg : decode c.code gf.pc = .ok (ig, len))
    (hfr : mFR k + 1 ≤ R.frames) (hlo : 2 * gf.monitorRoom + (gf.stack.map fun v => v.category).sum + (mL k + 11) + mLO k ≤ R.locals) (hce : cells + (g.2.1 - n).toNat ≤ R.cells) (hsl : slots + slN g.1 n g.2.1 ≤ R.slots)
    {mk : MethodId} (hn : U.methodNamed? (mY k) = some mk) :
    ∃ (o' : Out) (n' : Int) (h' : Mem) (γ' : Int → Nat) (L : List Loc) (kc ks : Nat) (U' : State), Q o' n' h' ∧ wtO g n' o' ∧ n ≤ n' ∧ (∀ a, a < n → γ' a = γ a) ∧ Mx g D dA γ' A n' h' U'.heap ∧
      kc + (g.2.1 - n').toNat ≤ (g.2.1 - n).toNat ∧ ks + slN g.1 n' g.2.1 ≤ slN g.1 n g.2.1 ∧ (∀ q ∈ L, A q.base) ∧ U.heap.size ≤ U'.heap.size ∧ (∀ q : Nat, q < U.heap.size → ¬ A q → U'.heap[q]? = U.heap[q]?) ∧
      Stand p l.1 e R s m args below meth c U' (locs ++ L) (cells + kc) (slots + ks) ∧
      Steps p.tables e below (doInvoke e (U.setTop gf) [] mk (av.map (cV γ)).toArray).1 (match o' with
        | .inl r => U'.setTop { gf with pc := gf.pc + len, stack := (r.map (cV γ')).toList ++ gf.stack }
        | .inr a => (U'.setTop gf).pushFrame (.throwing (γ' a))) := by
  have hcw' : (mW k).before (av.map (cV γ)).toArray U = true := hC.1.use hcw _
  obtain ⟨m9, methY, cY, hn9, hmY, hcY, -, hlY, -⟩ := mW_spec hcw'
  cases hn.symm.trans hn9
  obtain ⟨kY, hkY, -⟩ := className_of_methodNamed hn
  have hinitY : kY.init = .initialized := Cond.initialized_spec (findClass_of_methodNamed hn) hkY (hC.1.use hin (av.map (cV γ)).toArray)
  have hAt : At U gf.method c below := by rw [hg]; exact X.here
  have happ : (headSpec [mW k] { frames := mFR k, cells := (g.2.1 - n).toNat, slots := slN g.1 n g.2.1, locals := mLO k }).appliesLoose (mY k) e.platform (U.calling gf mk (av.map (cV γ)).toArray) = true :=
    Spec.appliesLoose_calling (g := gf) hAt hdg hn hkY hinitY
      (X.room_calling (g := gf) (R' := { frames := mFR k, cells := (g.2.1 - n).toNat, slots := slN g.1 n g.2.1, locals := mLO k }) hsize hmY hcY hfr (by rw [hlY]; exact hlo) hce hsl) (atoms_intro (ws := [mW k]) fun w hw => by rw [List.mem_singleton.mp hw]; exact hcw')
  obtain ⟨mid, hmid⟩ := hAt.above
  have hfr' : (U.setTop gf).frames = (.java gf :: mid) ++ below := by rw [State.frames_setTop' gf hAt.top, hmid]; rfl
  have hcal : Cx D dA γ A (U.calling gf mk (av.map (cV γ)).toArray) := hC.moved (U := U.calling gf mk (av.map (cV γ)).toArray) (State.WarmedH.refl _) (Nat.le_refl _) (fun _ _ _ => rfl) (fun _ _ => rfl)
  obtain ⟨o, s₂, hsteps, -, hend, hq⟩ := Steps.callFree (hT l D dA γ A) p X.admits X.cas X.clock (acts := []) hfr' happ ⟨rfl, hcal, hM, hA, hw⟩ trivial
  rw [State.frames_setTop' gf hAt.top] at hend
  exact cal_back X hg hdg hsteps hend hq
/-- a call of method k by its body's walk: its class need not be known to be initialized -/
theorem cal_run0 {p : Program} {l : Lch} {e : Env} {R : Room} {s : State} {m : MethodId} {args : Array Value} {below : List Frame} {meth : Method} {c : Code} {U : State} {locs : List Loc} {cells slots : Nat}
    (X : Stand p l.1 e R s m args below meth c U locs cells slots) {g : G} {k : Nat} {av : List V} {n : Int} {h : Mem} {Q : Out → Int → Mem → Prop} (hT : T_at g k 0 (entL av ++ List.replicate (mL k - (entL av).length) none) [] n h Q) (hy : plainName (mY k).cls = true) (hl : (entL av).length ≤ mL k) (hexec : p.tables.exec = Jvm.exec)
    {D : va_G} {dA : Nat → ClassId} {γ : Int → Nat} {A : Nat → Prop} (hC : Cx D dA γ A U) (hM : Mx g D dA γ A n h U.heap) (hA : ∀ q : Nat, U.heap.size ≤ q → A q) (hw : ∀ v ∈ av, wtV g.1 n v)
    (hcw : (mW k) ∈ lw_mv) {gf : JFrame} (hg : gf.method = m) (hsize : gf.locals.size = c.maxLocals) {ig : Instr} {len : Nat} (hdg : decode c.code gf.pc = .ok (ig, len))
    (hfr : mFR k + 1 ≤ R.frames) (hlo : 2 * gf.monitorRoom + (gf.stack.map fun v => v.category).sum + (mL k + 11) + mLO k ≤ R.locals) (hce : cells + (g.2.1 - n).toNat ≤ R.cells) (hsl : slots + slN g.1 n g.2.1 ≤ R.slots)
    {mk : MethodId} (hn : U.methodNamed? (mY k) = some mk) :
    ∃ (o' : Out) (n' : Int) (h' : Mem) (γ' : Int → Nat) (L : List Loc) (kc ks : Nat) (U' : State), Q o' n' h' ∧ wtO g n' o' ∧ n ≤ n' ∧ (∀ a, a < n → γ' a = γ a) ∧ Mx g D dA γ' A n' h' U'.heap ∧
      kc + (g.2.1 - n').toNat ≤ (g.2.1 - n).toNat ∧ ks + slN g.1 n' g.2.1 ≤ slN g.1 n g.2.1 ∧ (∀ q ∈ L, A q.base) ∧ U.heap.size ≤ U'.heap.size ∧ (∀ q : Nat, q < U.heap.size → ¬ A q → U'.heap[q]? = U.heap[q]?) ∧
      Stand p l.1 e R s m args below meth c U' (locs ++ L) (cells + kc) (slots + ks) ∧
      Steps p.tables e below (doInvoke e (U.setTop gf) [] mk (av.map (cV γ)).toArray).1 (match o' with
        | .inl r => U'.setTop { gf with pc := gf.pc + len, stack := (r.map (cV γ')).toList ++ gf.stack }
        | .inr a => (U'.setTop gf).pushFrame (.throwing (γ' a))) := by
  have hcw' : (mW k).before (av.map (cV γ)).toArray U = true := hC.1.use hcw _
  obtain ⟨m9, methY, cY, hn9, hmY, hcY, hbY, hlY, hexY, hretY, hlkY, -⟩ := mW_spec hcw'
  cases hn.symm.trans hn9
  have hAt : At U gf.method c below := by rw [hg]; exact X.here
  have hf : (U.calling gf mk (av.map (cV γ)).toArray).frames = .invoking mk (av.map (cV γ)).toArray :: .java gf :: U.frames.tail := State.frames_calling hAt.top gf mk _
  have hcur := State.cur_lt_of_frames hf
  have hroom : (U.calling gf mk (av.map (cV γ)).toArray).hasRoom e.platform { frames := mFR k, cells := (g.2.1 - n).toNat, slots := slN g.1 n g.2.1, locals := mLO k } = true :=
    X.room_calling (g := gf) (R' := { frames := mFR k, cells := (g.2.1 - n).toNat, slots := slN g.1 n g.2.1, locals := mLO k }) hsize hmY hcY hfr (by rw [hlY]; exact hlo) hce hsl
  have hcode : (U.calling gf mk (av.map (cV γ)).toArray).code? gf.method = some c := by
    have := hAt.code
    rw [State.code?_eq] at this ⊢
    simpa [State.calling, State.pushFrame, State.setFrames] using this
  have hhears : (U.calling gf mk (av.map (cV γ)).toArray).hears mk (.java gf :: U.frames.tail) = true := by
    simp [State.hears, hcode, hdg, Except.toOption]
  have hrun : (U.calling gf mk (av.map (cV γ)).toArray).status = .running := hAt.running
  have hable : (U.calling gf mk (av.map (cV γ)).toArray).curStatus? = some .runnable := by simpa [State.calling] using hAt.runnable
  have halone : (U.calling gf mk (av.map (cV γ)).toArray).alone = true := by simpa [State.calling] using hAt.alone
  have hnamed : (U.calling gf mk (av.map (cV γ)).toArray).methodNamed? (mY k) = some mk := hn
  have hmeth : (U.calling gf mk (av.map (cV γ)).toArray).vm.method? mk = some methY := hmY
  have hfrU : (U.setTop gf).frames = .java gf :: U.frames.tail := State.frames_setTop' gf hAt.top
  have hf1 : ((U.calling gf mk (av.map (cV γ)).toArray).setFrames (.java (entryFrame mk (av.map (cV γ)).toArray (mL k)) :: .java gf :: U.frames.tail)).frames = .java (entryFrame mk (av.map (cV γ)).toArray (mL k)) :: .java gf :: U.frames.tail := State.frames_setFrames _ hcur
  have ht1 := State.topJava?_of_frames hf1
  have hplain : ((U.calling gf mk (av.map (cV γ)).toArray).setFrames (.java (entryFrame mk (av.map (cV γ)).toArray (mL k)) :: .java gf :: U.frames.tail)).plainMethod mk := State.plainMethod.of_named (s := U.calling gf mk (av.map (cV γ)).toArray) (plainFor_of_name hy) hnamed hmeth
  have hAt1 : At ((U.calling gf mk (av.map (cV γ)).toArray).setFrames (.java (entryFrame mk (av.map (cV γ)).toArray (mL k)) :: .java gf :: U.frames.tail)) mk cY (.java gf :: U.frames.tail) :=
    ⟨by rw [ht1]; rfl, ⟨[], by rw [hf1]; rfl⟩, hrun, by simpa using hable, by simpa using halone,
      by rw [State.code?_eq]; simp [State.setFrames, hmeth, hcY], hplain⟩
  obtain ⟨th, hth, -⟩ := State.frames_cons hf
  have X1 : Stand p l.1 e { frames := mFR k, cells := (g.2.1 - n).toNat, slots := slN g.1 n g.2.1, locals := mLO k } (U.calling gf mk (av.map (cV γ)).toArray) mk (av.map (cV γ)).toArray (.java gf :: U.frames.tail) methY cY ((U.calling gf mk (av.map (cV γ)).toArray).setFrames (.java (entryFrame mk (av.map (cV γ)).toArray (mL k)) :: .java gf :: U.frames.tail)) [] 0 0 :=
    ⟨X.admits, X.cas, X.clock, hf, hroom, hhears, hmeth, hcY, hAt1, by rw [hf1]; rfl, State.WarmedH.refl _, by rw [State.stackLimits_setFrames], by rw [State.stackBytes_setFrames], (State.sameButNew.refl _ hth).setFrames _ hcur⟩
  have hcal : Cx D dA γ A (U.calling gf mk (av.map (cV γ)).toArray) := hC.moved (U := U.calling gf mk (av.map (cV γ)).toArray) (State.WarmedH.refl _) (Nat.le_refl _) (fun _ _ _ => rfl) (fun _ _ => rfl)
  have hent := lv_entry (av.map (cV γ)) (n := mL k) (by rw [entL_len]; exact hl)
  have hLx : Lx γ (mL k) (entL av ++ List.replicate (mL k - (entL av).length) none) ((lg_sl (av.map (cV γ)) ++ List.replicate (mL k - (lg_sl (av.map (cV γ))).length) Slot.unset).toArray) := by
    refine ⟨hent.1, hent.2.1, fun i v hv => ?_⟩
    rcases Nat.lt_or_ge i (entL av).length with hi | hi
    · rw [List.getElem?_append_left hi] at hv
      have := entL_mem γ av 0 i v hv
      rw [Nat.zero_add] at this
      exact hent.2.2 _ this
    · rw [List.getElem?_append_right hi] at hv
      simp [List.getElem?_replicate] at hv
  have K := hT p l e { frames := mFR k, cells := (g.2.1 - n).toNat, slots := slN g.1 n g.2.1, locals := mLO k } (U.calling gf mk (av.map (cV γ)).toArray) mk (av.map (cV γ)).toArray (.java gf :: U.frames.tail) methY cY D dA A γ n γ U.heap [] 0 0 _ ⟨⟨hexec, hbY, hlY, hretY, hlkY, findClass_of_methodNamed hnamed, (name_of_methodNamed hnamed hmeth).1, hexY⟩, ⟨Nat.le_refl _, Nat.le_refl _, Nat.le_of_eq (Nat.zero_add _), Nat.le_of_eq (Nat.zero_add _)⟩, ⟨hcal, va_S.rf, hA⟩, ⟨hM.1, Int.le_refl _, fun _ _ => rfl, hM⟩⟩ hLx
    (fun i v hv => by
      rcases Nat.lt_or_ge i (entL av).length with hi | hi
      · rw [List.getElem?_append_left hi] at hv
        exact entL_wt av hw i v hv
      · rw [List.getElem?_append_right hi] at hv
        simp [List.getElem?_replicate] at hv) (fun v hv => by cases hv)
  rw [List.map_nil, ← lg_entry_eq] at K
  obtain ⟨t, a1, o, b1, b2, b3⟩ := K ((U.calling gf mk (av.map (cV γ)).toArray).setFrames (.java (entryFrame mk (av.map (cV γ)).toArray (mL k)) :: .java gf :: U.frames.tail)) rfl X1
  have hbk : U.setTop gf = (U.calling gf mk (av.map (cV γ)).toArray).setFrames (.java gf :: U.frames.tail) := by
    obtain ⟨g₀, hg0⟩ := Option.isSome_iff_exists.mp hAt.top
    obtain ⟨rr, hr⟩ := State.topJava?_eq_some.mp hg0
    rw [State.calling_eq hAt.top, State.setFrames_setFrames, State.setTop_of_frames _ hr, hr]
    rfl
  have hfull : e.platform.stackFull (U.setTop gf).me (U.setTop gf).frames cY.maxLocals = false := by
    rw [hbk]
    obtain ⟨-, h1, -, h2⟩ := State.hasRoom_stack hroom
    rw [hf, List.length_cons] at h1
    rw [State.localsInUse_invoking hf hmeth hcY] at h2
    have hw := stackUse_le_stackWeight (.java gf :: U.frames.tail)
    rw [State.frames_setFrames _ hcur]
    exact Platform.stackFull_eq_false (by rw [State.stackLimits_setFrames]; omega) (by rw [State.stackLimits_setFrames]; omega)
  have hstep : (doInvoke e (U.setTop gf) [] mk (av.map (cV γ)).toArray).1 = ((U.calling gf mk (av.map (cV γ)).toArray).setFrames (.java (entryFrame mk (av.map (cV γ)).toArray (mL k)) :: .java gf :: U.frames.tail)).setTop (entryFrame mk (av.map (cV γ)).toArray (mL k)) := by
    rw [(doInvoke_java (s := U.setTop gf) (e := e) (meth := methY) (code := cY) hmY hcY hlkY hfull).1, State.setTop_self ht1]
    simp only [State.calling, State.pushFrame, hfrU, State.setFrames_setFrames, hlY, entryFrame]
  refine cal_back X hg hdg (o := o) (s₂ := t) (by rw [hstep]; exact Steps.weaken (mid := .java gf :: U.frames.tail.take (U.frames.tail.length - below.length)) (by
    have htl : U.frames.tail = below := X.tail
    rw [htl]
    simp
    rw [htl] at a1
    exact a1)) b2 b3
theorem rfit_mono {S : Shp} {n n' : Int} {k : Nat} {x : Int} (hn : n ≤ n') (h : rfit S n k x) : rfit S n' k x := ⟨h.1, by have := h.2.1; omega, h.2.2⟩
theorem wtV_mono {S : Shp} {n n' : Int} {v : V} (hn : n ≤ n') (h : wtV S n v) : wtV S n' v := by
  rcases v with x | x | ⟨d, x⟩
  · exact h
  · exact h
  · rcases h with h | h
    · exact Or.inl h
    · exact Or.inr (rfit_mono hn h)
theorem cR_eq {γ γ' : Int → Nat} {n x : Int} (hg : ∀ a, a < n → γ' a = γ a) (h : x = 0 ∨ x < n) : cR γ' x = cR γ x := by
  unfold cR
  split
  · rfl
  · rw [hg x (by omega)]
theorem cV_eq {S : Shp} {γ γ' : Int → Nat} {n : Int} {v : V} (hg : ∀ a, a < n → γ' a = γ a) (h : wtV S n v) : cV γ' v = cV γ v := by
  rcases v with x | x | ⟨d, x⟩
  · rfl
  · rfl
  · refine cR_eq hg ?_
    rcases h with h | h
    · exact Or.inl h.1
    · exact Or.inr h.2.1
theorem Lx.to {S : Shp} {γ γ' : Int → Nat} {n : Int} {nL : Nat} {ls : Lcs} {la : Array Slot} (h : Lx γ nL ls la) (hg : ∀ a, a < n → γ' a = γ a) (hw : ∀ (i : Nat) (v : V), ls[i]? = some (some v) → wtV S n v) : Lx γ' nL ls la :=
  ⟨h.1, h.2.1, fun i v hv => by rw [cV_eq hg (hw i v hv)]; exact h.2.2 i v hv⟩
theorem map_cV {S : Shp} {γ γ' : Int → Nat} {n : Int} {l : List V} (hg : ∀ a, a < n → γ' a = γ a) (hw : ∀ v ∈ l, wtV S n v) : l.map (cV γ') = l.map (cV γ) :=
  List.map_congr_left fun v hv => cV_eq hg (hw v hv)
theorem va_S.app {A : Nat → Prop} {H0 H H1 : Heap} {locs L : List Loc} (h : va_S A H0 H locs) (hz : H.size ≤ H1.size) (hk : ∀ q : Nat, q < H.size → ¬ A q → H1[q]? = H[q]?) (hL : ∀ q ∈ L, A q.base) : va_S A H0 H1 (locs ++ L) :=
  ⟨Nat.le_trans h.1 hz, fun q h1 h2 => by rw [hk q (Nat.lt_of_lt_of_le h1 h.1) h2]; exact h.2.1 q h1 h2, fun q hq => by
    rcases List.mem_append.mp hq with h1 | h1
    · exact h.2.2 q h1
    · exact hL q h1⟩
/-- where a pc is covered -/
def hcov (k pc : Nat) : Option Nat := ((mHd k).find? (fun x => decide (x.1 ≤ pc) && decide (pc < x.2.1))).map (fun x => x.2.2.1)
/-- how a body goes on behind a call -/
def Kn (g : G) (k pc : Nat) (ls : Lcs) (rest : List V) (Q : Out → Int → Mem → Prop) : Out → Int → Mem → Prop := fun o n h => match o with
  | .inl none => T_at g k (pc + 3) ls rest n h Q
  | .inl (some v) => T_at g k (pc + 3) ls (v :: rest) n h Q
  | .inr a => match hcov k pc with
    | none => Q (.inr a) n h
    | some t => T_at g k t ls [vR 35 a] n h Q
theorem covers_def {x : ExceptionTableEntry} {pc : Nat} : covers x pc = (decide (x.startPc ≤ pc) && decide (pc < x.endPc)) := rfl
theorem T_fin0 {g : G} {k pc : Nat} {ls : Lcs} {rest : List V} {n : Int} {h : Mem} {Q : Out → Int → Mem → Prop} {kc' : Nat} {av : List V} (hT : (T g kc' av n h (Kn g k pc ls rest Q) ∧ (Cond.initialized (mY kc').cls) ∈ lw_mv) ∨ (T_at g kc' 0 (entL av ++ List.replicate (mL kc' - (entL av).length) none) [] n h (Kn g k pc ls rest Q) ∧ plainName (mY kc').cls = true ∧ (entL av).length ≤ mL kc'))
    {p : Program} {l : Lch} {e : Env} {R : Room} {s : State} {m : MethodId} {args : Array Value} {below : List Frame} {meth : Method} {c : Code} {D : va_G} {dA : Nat → ClassId} {A : Nat → Prop} {γ0 : Int → Nat} {n0 : Int} {γ : Int → Nat} {H : Heap} {locs : List Loc} {cells slots : Nat} {la : Array Slot}
    (hB : Bx g k p R s m meth c D dA A γ0 n0 γ n h H locs cells slots) (hL : Lx γ (mL k) ls la) (hwl : ∀ (i : Nat) (v : V), ls[i]? = some (some v) → wtV g.1 n v) (hwr : ∀ v ∈ rest, wtV g.1 n v) (hwa : ∀ v ∈ av, wtV g.1 n v)
    {U : State} (hU : U.heap = H) (X : Stand p l.1 e R s m args below meth c U locs cells slots) {mk : MethodId} (hn : U.methodNamed? (mY kc') = some mk) {ig : Instr} (hdg : decode (mC k) pc = .ok (ig, 3))
    (hcw : (mW kc') ∈ lw_mv) (hfr : mFR kc' + 1 ≤ mFR k) (hlo : ((rest.map (cV γ)).map fun v => v.category).sum + (mL kc' + 11) + mLO kc' ≤ mLO k)
    (hh : ∀ x ∈ mHd k, x.2.2.2 ≠ 0 ∧ (Cond.classLink (mY k).cls x.2.2.2 "FontHouse$Fault") ∈ lw_mv) :
    ∃ t, Steps p.tables e below (doInvoke e (U.setTop (F0 m pc la (rest.map (cV γ)))) [] mk (av.map (cV γ)).toArray).1 t ∧ Zq g D dA γ0 A n0 Q R below s t := by
  subst hU
  obtain ⟨⟨hx, hb, hml, hr, hlk, hown, hnm, hex⟩, ⟨hR1, hR2, hR3, hR4⟩, ⟨hC, hS, hA⟩, ⟨hn1, hn2, hγ, hM⟩⟩ := id hB
  have hCU : Cx D dA γ A U := hC.moved X.warmed hS.1 hS.2.1 (fun a ha => hγ a (by have : SB ≤ n0 := hn1; omega))
  have run : ∃ (o' : Out) (n' : Int) (h' : Mem) (γ' : Int → Nat) (L : List Loc) (kc ks : Nat) (U' : State), Kn g k pc ls rest Q o' n' h' ∧ wtO g n' o' ∧ n ≤ n' ∧ (∀ a, a < n → γ' a = γ a) ∧ Mx g D dA γ' A n' h' U'.heap ∧
      kc + (g.2.1 - n').toNat ≤ (g.2.1 - n).toNat ∧ ks + slN g.1 n' g.2.1 ≤ slN g.1 n g.2.1 ∧ (∀ q ∈ L, A q.base) ∧ U.heap.size ≤ U'.heap.size ∧ (∀ q : Nat, q < U.heap.size → ¬ A q → U'.heap[q]? = U.heap[q]?) ∧
      Stand p l.1 e R s m args below meth c U' (locs ++ L) (cells + kc) (slots + ks) ∧
      Steps p.tables e below (doInvoke e (U.setTop (F0 m pc la (rest.map (cV γ)))) [] mk (av.map (cV γ)).toArray).1 (match o' with
        | .inl r => U'.setTop { F0 m pc la (rest.map (cV γ)) with pc := (F0 m pc la (rest.map (cV γ))).pc + 3, stack := (r.map (cV γ')).toList ++ (F0 m pc la (rest.map (cV γ))).stack }
        | .inr a => (U'.setTop (F0 m pc la (rest.map (cV γ)))).pushFrame (.throwing (γ' a))) := by
    rcases hT with ⟨hT, hin⟩ | ⟨hT, hy9, hl9⟩
    · exact cal_run X hT hCU hM (fun q hq => hA q (Nat.le_trans hS.1 hq)) hwa hcw hin (gf := F0 m pc la (rest.map (cV γ))) rfl (by rw [hml]; exact hL.1) (ig := ig) (len := 3) (by rw [hb]; exact hdg) (by omega) (by show 2 * 0 + ((rest.map (cV γ)).map fun v => v.category).sum + (mL kc' + 11) + mLO kc' ≤ R.locals; omega) hR3 hR4 hn
    · exact cal_run0 X hT hy9 hl9 hx hCU hM (fun q hq => hA q (Nat.le_trans hS.1 hq)) hwa hcw (gf := F0 m pc la (rest.map (cV γ))) rfl (by rw [hml]; exact hL.1) (ig := ig) (len := 3) (by rw [hb]; exact hdg) (by omega) (by show 2 * 0 + ((rest.map (cV γ)).map fun v => v.category).sum + (mL kc' + 11) + mLO kc' ≤ R.locals; omega) hR3 hR4 hn
  obtain ⟨o', n', h', γ', L, kc, ks, U', hQ, hwo, hnn, hγ', hM', hkc, hks, hL', hz, hk, X', hst⟩ := run
  have hB' : Bx g k p R s m meth c D dA A γ0 n0 γ' n' h' U'.heap (locs ++ L) (cells + kc) (slots + ks) :=
    ⟨⟨hx, hb, hml, hr, hlk, hown, hnm, hex⟩, ⟨hR1, hR2, by omega, by omega⟩, ⟨hC, va_S.app hS hz hk hL', hA⟩, ⟨hn1, by omega, fun a ha => by rw [hγ' a (by omega)]; exact hγ a ha, hM'⟩⟩
  have hLx := hL.to hγ' hwl
  have hwl' : ∀ (i : Nat) (v : V), ls[i]? = some (some v) → wtV g.1 n' v := fun i v hv => wtV_mono hnn (hwl i v hv)
  have hwr' : ∀ v ∈ rest, wtV g.1 n' v := fun v hv => wtV_mono hnn (hwr v hv)
  have hmap := map_cV hγ' hwr
  rcases o' with (_ | v) | a
  · obtain ⟨t, h1, h2⟩ := hQ p l e R s m args below meth c D dA A γ0 n0 γ' U'.heap (locs ++ L) (cells + kc) (slots + ks) la hB' hLx hwl' hwr' U' rfl X'
    rw [hmap] at h1
    exact ⟨t, hst.trans h1, h2⟩
  · obtain ⟨t, h1, h2⟩ := hQ p l e R s m args below meth c D dA A γ0 n0 γ' U'.heap (locs ++ L) (cells + kc) (slots + ks) la hB' hLx hwl' (fun w hw => by
      rcases List.mem_cons.mp hw with e | e
      · rw [e]; exact hwo
      · exact hwr' w e) U' rfl X'
    rw [List.map_cons, hmap] at h1
    exact ⟨t, hst.trans h1, h2⟩
  · cases hcv : hcov k pc with
    | none =>
      have hQa : Q (.inr a) n' h' := by
        have : Kn g k pc ls rest Q (.inr a) n' h' := hQ
        simp only [Kn, hcv] at this
        exact this
      have hout : ∀ x ∈ c.exceptionTable.toList, covers x pc = false := by
        intro x hx9
        have hmem : (x.startPc, x.endPc, x.handlerPc, x.catchType) ∈ mHd k := by
          rw [← hex]; exact List.mem_map.mpr ⟨x, hx9, rfl⟩
        unfold hcov at hcv
        have h1 := List.find?_eq_none.mp (Option.map_eq_none_iff.mp hcv) _ hmem
        rw [covers_def]
        simpa using h1
      obtain ⟨hw1, hrun, hend, hWm, hsm⟩ := X'.leaveThrown (γ' a) (g := F0 m pc la (rest.map (cV γ))) rfl rfl rfl hout hlk
      refine ⟨_, hst.trans hw1, .threw (γ' a), hrun, hend, .inr a, n', h', γ', locs ++ L, cells + kc, slots + ks, hQa, rfl, hwo, by omega, fun b hb' => by rw [hγ' b (by omega)]; exact hγ b hb', hM', hWm, hsm, by omega, by omega, (va_S.app hS hz hk hL').2.2, ?_⟩
      exact ⟨(va_S.app hS hz hk hL').1, (va_S.app hS hz hk hL').2.1⟩
    | some tp =>
      have hQa : T_at g k tp ls [vR 35 a] n' h' Q := by
        have : Kn g k pc ls rest Q (.inr a) n' h' := hQ
        simp only [Kn, hcv] at this
        exact this
      obtain ⟨z, hz1, hz2⟩ := Option.map_eq_some_iff.mp hcv
      obtain ⟨hz3, as, bs, hz4, hz5⟩ := List.find?_eq_some_iff_append.mp hz1
      obtain ⟨pre, rst, e1, e2, e3⟩ := List.map_eq_append_iff.mp (hex.trans hz4)
      obtain ⟨x, rs, e4, e5, e6⟩ := List.map_eq_cons_iff.mp e3
      have hzm : z ∈ mHd k := by rw [hz4]; exact List.mem_append_right _ (List.mem_cons_self ..)
      have hw17 : rfit g.1 n' 17 a := hwo
      obtain ⟨ha1, ha2, ha3⟩ := hw17
      have ha1 : 1 ≤ a := by omega
      rw [if_neg (by omega)] at ha3
      have ha17 : SB ≤ a := by
        rcases Int.lt_or_le a SB with q | q
        · have h9 : g.1 a = stS a := hM'.2.2.1 a q
          rw [h9] at ha3
          have h8 : ∀ i : Nat, i < 17 → (stS (i : Int)).1 ≠ 17 := by decide
          have q' : a < 17 := q
          have := h8 a.toNat (by omega)
          rw [show ((a.toNat : Nat) : Int) = a by omega] at this
          exact absurd ha3 this
        · exact q
      have hcl := (hM'.2.2.2.1 a ha17 ha2).1
      unfold Cl at hcl
      rw [ha3, if_pos (by omega)] at hcl
      obtain ⟨cell, hc1, hc2, hc3, -⟩ := hcl
      obtain ⟨-, hfc, kC, hkC, -⟩ := hC.2.1.1.1 17 _ (vwCl_at (by omega))
      have hlk9 := (hh z hzm)
      rw [← e5] at hlk9 hz3
      have hasg : s.vm.assignable (D.1 17) (D.1 17) = true := by
        show s.vm.assignableAux (255 + 1) _ _ = true
        rw [Vm.assignableAux]; simp
      obtain ⟨vm', X2, step⟩ := va_catch X' hown (γ' a) (g := F0 m pc la (rest.map (cV γ))) rfl pre x rs (by rw [e1, e4]) (fun y hy => by
        have h7 := hz5 _ (by rw [← e2]; exact List.mem_map.mpr ⟨y, hy, rfl⟩)
        rw [covers_def]
        simp at h7 ⊢
        omega) (by rw [covers_def]; exact hz3) hlk9.1 (hC.1.use hlk9.2 args) hc1 (fun q => by rw [hc3]; simp) (by rw [hc2]; exact hkC) hfc (by rw [hc2]; exact hasg)
      have hpc : x.handlerPc = tp := by rw [← hz2, ← e5]
      obtain ⟨t, h1, h2⟩ := hQa p l e R s m args below meth c D dA A γ0 n0 γ' U'.heap (locs ++ L) (cells + kc) (slots + ks) la hB' hLx hwl' (fun w hw => by
        rw [List.mem_singleton.mp hw]
        refine Or.inr ⟨Or.inl ha1, ha2, ?_⟩
        rw [if_neg (by decide)]; exact ha3) (U'.setVm vm') rfl X2
      refine ⟨t, hst.trans (step t ?_), h2⟩
      rw [hpc]
      have e9 : ([vR 35 a].map (cV γ')) = [Value.ref (γ' a)] := by
        show [cR γ' a] = _
        unfold cR
        rw [if_neg (by omega)]
      rw [e9] at h1
      exact h1
theorem T_fin {g : G} {k pc : Nat} {ls : Lcs} {rest : List V} {n : Int} {h : Mem} {Q : Out → Int → Mem → Prop} {kc' : Nat} {av : List V} (hT : T g kc' av n h (Kn g k pc ls rest Q))
    {p : Program} {l : Lch} {e : Env} {R : Room} {s : State} {m : MethodId} {args : Array Value} {below : List Frame} {meth : Method} {c : Code} {D : va_G} {dA : Nat → ClassId} {A : Nat → Prop} {γ0 : Int → Nat} {n0 : Int} {γ : Int → Nat} {H : Heap} {locs : List Loc} {cells slots : Nat} {la : Array Slot}
    (hB : Bx g k p R s m meth c D dA A γ0 n0 γ n h H locs cells slots) (hL : Lx γ (mL k) ls la) (hwl : ∀ (i : Nat) (v : V), ls[i]? = some (some v) → wtV g.1 n v) (hwr : ∀ v ∈ rest, wtV g.1 n v) (hwa : ∀ v ∈ av, wtV g.1 n v)
    {U : State} (hU : U.heap = H) (X : Stand p l.1 e R s m args below meth c U locs cells slots) {mk : MethodId} (hn : U.methodNamed? (mY kc') = some mk) {ig : Instr} (hdg : decode (mC k) pc = .ok (ig, 3))
    (hcw : (mW kc') ∈ lw_mv) (hin : (Cond.initialized (mY kc').cls) ∈ lw_mv) (hfr : mFR kc' + 1 ≤ mFR k) (hlo : ((rest.map (cV γ)).map fun v => v.category).sum + (mL kc' + 11) + mLO kc' ≤ mLO k)
    (hh : ∀ x ∈ mHd k, x.2.2.2 ≠ 0 ∧ (Cond.classLink (mY k).cls x.2.2.2 "FontHouse$Fault") ∈ lw_mv) :
    ∃ t, Steps p.tables e below (doInvoke e (U.setTop (F0 m pc la (rest.map (cV γ)))) [] mk (av.map (cV γ)).toArray).1 t ∧ Zq g D dA γ0 A n0 Q R below s t := by
  exact T_fin0 (Or.inl ⟨hT, hin⟩) hB hL hwl hwr hwa hU X hn hdg hcw hfr hlo hh
