set_option maxRecDepth 100000
section
variable {E : CtlPost} {e : Env} {d : Bool} {acts : List Action} {s : State} {f : JFrame} {a : Addr} {Q : Handler → Pre}
theorem va_fhc {x : ExceptionTableEntry} {t : List ExceptionTableEntry} {c : ClassId} {vm' : Vm} (hx : covers x f.pc = true) (h0 : x.catchType ≠ 0)
    (hg : (Jvm.resolveClass f.method.cls x.catchType).Gives e.toSetting s.vm (.ok c) vm') (hr : vm'.classReady f.method.cls x.catchType c)
    (hsz : vm'.classes.size ≤ s.vm.classes.size) :
    wp (findHandler.go f a (x :: t)) Q E e d acts s ↔ wp (findHandler.go f a (x :: t)) Q E e d acts (s.setVm vm') := by
  obtain ⟨ha, ht⟩ := hg.op (op := VmOp.resolveClass f.method.cls x.catchType) rfl
  obtain ⟨k, hkd, hres⟩ := hr
  simp only [covers] at hx
  simp [findHandler.go, hx, h0, ha, ht, hsz, resolveClass_memo e hkd hres, VmOp.dirties, VmOp.acts]
  exact Iff.rfl
end
/-- the search ends at a handler, the catch type being resolved on the way -/
def va_Fc (e : Env) (s : State) (f : JFrame) (a : Addr) (vm' : Vm) (pc : Nat) : Prop :=
  ∀ (Q : Handler → Pre) (E : CtlPost) (d : Bool) (acts : List Action), wp (findHandler f a) Q E e d acts s ↔ Q (.found pc) d acts (s.setVm vm')
theorem va_fcc {e : Env} {s : State} {f : JFrame} {a : Addr} {meth : Method} {code : Code} (hm : s.vm.method? f.method = some meth) (hc : meth.code = some code)
    (pre : List ExceptionTableEntry) (x : ExceptionTableEntry) (rest : List ExceptionTableEntry) (hsplit : code.exceptionTable.toList = pre ++ x :: rest)
    (hskip : ∀ y ∈ pre, covers y f.pc = false) (hx : covers x f.pc = true) (h0 : x.catchType ≠ 0) {c : ClassId} {cell : Cell} {vm' : Vm}
    (hg : (Jvm.resolveClass f.method.cls x.catchType).Gives e.toSetting s.vm (.ok c) vm') (hr : vm'.classReady f.method.cls x.catchType c) (hsz : vm'.classes.size ≤ s.vm.classes.size)
    (hcell : s.heap[a]? = some cell) (hobj : ∀ k, cell.vm ≠ .statics k)
    (hk : ∃ k, vm'.classes[cell.cls]? = some k) (hcl : ∃ k, vm'.classes[c]? = some k) (hfit : vm'.assignable cell.cls c = true) : va_Fc e s f a vm' x.handlerPc := by
  intro Q E d acts
  rw [W.findHandler_eq hm hc, hsplit]
  clear hsplit
  induction pre with
  | nil =>
    rw [List.nil_append, va_fhc hx h0 hg hr hsz, W.findHandler_go_class (s := s.setVm vm') hx h0 hr hcell hobj hk hcl, if_pos (show (s.setVm vm').vm.assignable cell.cls c = true from hfit)]
  | cons y t ih =>
    rw [List.cons_append, W.findHandler_go_skip (hskip y (List.mem_cons_self ..))]
    exact ih (fun z hz => hskip z (List.mem_cons_of_mem _ hz))
theorem va_stc {e : Env} {s : State} {a : Addr} {f : JFrame} {r : List Frame} {pc : Nat} {vm' : Vm} (hfind : va_Fc e s f a vm' pc) :
    (stepThrowing e s a (.java f :: r)).Is ((s.setVm vm').setFrames (.java { f with pc := pc, stack := [.ref a] } :: r)) [] := by
  simp only [stepThrowing, searchFrame, vmDo]
  generalize hr : Sem.go _ e false [] s = res
  obtain ⟨as, rfl, ha⟩ := Sem.eq_ok_of hr (a := Handler.found pc) (s' := s.setVm vm') (acts' := []) (by simp [hfind _ _ _ _])
  exact ⟨rfl, ha⟩
theorem va_stp {tb : Tables} {e : Env} {s target : State} {g : JFrame} {c : Code} {below : List Frame} {a : Addr} (h : At s g.method c below) {pc : Nat} {vm' : Vm} (hfind : va_Fc e ((s.setTop g).pushFrame (.throwing a)) g a vm' pc)
    (hrest : Steps tb e below ((s.setVm vm').setTop { g with pc := pc, stack := [.ref a] }) target) :
    Steps tb e below ((s.setTop g).pushFrame (.throwing a)) target := by
  obtain ⟨hgo, hw⟩ := h.throwing a
  refine Steps.head hgo hw ?_
  rw [stepThread_throwing (frames_entered h.top _), (va_stc (s := (s.setTop g).pushFrame (.throwing a)) hfind).1]
  obtain ⟨g₀, hg⟩ := Option.isSome_iff_exists.mp h.top
  obtain ⟨r, hr⟩ := State.topJava?_eq_some.mp hg
  have hr' : (s.setVm vm').frames = .java g₀ :: r := hr
  rw [State.setTop_of_frames _ hr'] at hrest
  rw [hr]
  have e1 : (((s.setTop g).pushFrame (.throwing a)).setVm vm').setFrames (.java { g with pc := pc, stack := [.ref a] } :: r) = (s.setVm vm').setFrames (.java { g with pc := pc, stack := [.ref a] } :: r) := by
    rw [State.pushFrame, State.setTop_of_frames _ hr, State.setFrames_setFrames]
    show ((s.setVm vm').setFrames _).setFrames _ = _
    rw [State.setFrames_setFrames]
  exact e1 ▸ hrest
section
variable {p : Program} {l : Launch} {e : Env} {R : Room} {s : State} {m : MethodId} {args : Array Value} {below : List Frame} {meth : Method} {c : Code} {T : State} {locs : List Loc} {cells slots : Nat}
/-- CAUGHT IN THE WALKED METHOD, the catch type cold or warm -/
theorem va_catch (X : Stand p l e R s m args below meth c T locs cells slots) {own name : String} (hown : s.vm.findClass own = some m.cls) (a : Addr) {g : JFrame} (hg : g.method = m)
    (pre : List ExceptionTableEntry) (x : ExceptionTableEntry) (rest : List ExceptionTableEntry) (hsplit : c.exceptionTable.toList = pre ++ x :: rest)
    (hskip : ∀ y ∈ pre, covers y g.pc = false) (hx : covers x g.pc = true) (h0 : x.catchType ≠ 0) (hlink : (Cond.classLink own x.catchType name).before args s = true)
    {cell : Cell} {cT : ClassId} {ks : Class} (hcell : T.heap[a]? = some cell) (hobj : ∀ k, cell.vm ≠ .statics k) (hks : s.vm.classes[cell.cls]? = some ks)
    (hcT : s.vm.findClass name = some cT) (hasg : s.vm.assignable cell.cls cT = true) :
    ∃ vm', Stand p l e R s m args below meth c (T.setVm vm') locs cells slots ∧
      ∀ target, Steps p.tables e below ((T.setVm vm').setTop { g with pc := x.handlerPc, stack := [.ref a] }) target → Steps p.tables e below ((T.setTop g).pushFrame (.throwing a)) target := by
  have hpl : e.platform.magicAccessors = ({} : Platform).magicAccessors := by rw [X.admits.platform]
  obtain ⟨c', hc', hcl⟩ := Cond.classLink_spec hown hlink e.platform hpl
  cases hcT.symm.trans hc'
  obtain ⟨dk, _, _, kt, hd, _, _, _, _, hkt, _, hopen⟩ := hcl.here
  have hcl₀ := X.warmed.classLinks hcl
  have hW' : s.WarmedH (T.vm.noted m.cls x.catchType (.cls cT)) := X.warmed.noted hd hopen (State.rightAt_cls hcl)
  obtain ⟨ks', hks', -⟩ := hW'.alike.2.2 _ _ hks
  obtain ⟨kt', hkt', -⟩ := hW'.alike.2.2 _ _ hkt
  refine ⟨_, X.noted hW', fun target hrest => ?_⟩
  subst hg
  refine va_stp X.here (va_fcc (meth := meth) (code := c) ?_ X.code pre x rest hsplit hskip hx h0 (c := cT) (cell := cell) ?_ hcl₀.ready ?_ ?_ hobj ⟨ks', hks'⟩ ⟨kt', hkt'⟩ (by rw [hW'.alike.assignable]; exact hasg)) hrest
  · rw [throwing_vm]; exact X.method'
  · rw [throwing_vm]; exact resolveClass_links e.toSetting hcl₀
  · rw [throwing_vm]; no_record
  · rw [throwing_heap]; exact hcell
end
