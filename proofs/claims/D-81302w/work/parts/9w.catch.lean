/-! CATCH: a handler's class may be resolved for the first time when it catches -/
set_option maxRecDepth 100000
section CATCH
variable {e : Env} {s : State} {f : JFrame} {a : Addr} {Q : Handler → Pre} {E : CtlPost} {d : Bool} {acts : List Action}
theorem go_cold {x : ExceptionTableEntry} {t : List ExceptionTableEntry} {c : ClassId} {cell : Cell} {vm' : Vm} (hx : covers x f.pc = true) (h0 : x.catchType ≠ 0)
    (hg : (Jvm.resolveClass f.method.cls x.catchType).Gives e.toSetting s.vm (.ok c) vm') (hsz : vm'.classes.size ≤ s.vm.classes.size) (hcell : s.heap[a]? = some cell) (hobj : ∀ k, cell.vm ≠ .statics k)
    (hk : ∃ k, vm'.classes[cell.cls]? = some k) (hc : ∃ k, vm'.classes[c]? = some k) :
    wp (findHandler.go f a (x :: t)) Q E e d acts s ↔
      if vm'.assignable cell.cls c = true then Q (.found x.handlerPc) d acts (s.setVm vm') else wp (findHandler.go f a t) Q E e d acts (s.setVm vm') := by
  simp only [covers] at hx
  obtain ⟨ha, ht⟩ := hg.op (op := VmOp.resolveClass f.method.cls x.catchType) rfl
  cases hfit : vm'.assignable cell.cls c <;>
    simp [findHandler.go, hx, h0, ha, ht, hsz, hcell, hobj, hk, hc, hfit, VmOp.dirties, VmOp.acts]
end CATCH
section CATCH2
variable {p : Program} {l : Launch} {e : Env} {R : Room} {s : State} {m : MethodId} {args : Array Value} {below : List Frame} {meth : Method} {c : Code} {T : State} {locs : List Loc} {cells slots : Nat} {a : Addr} {g : JFrame}
/-- the note of a throw over a frame -/
abbrev thrw (T : State) (g : JFrame) (a : Addr) : State := (T.setTop g).pushFrame (.throwing a)
theorem thrw_vm (T : State) (g : JFrame) (a : Addr) (vm' : Vm) : (thrw T g a).setVm vm' = thrw (T.setVm vm') g a := rfl
/-- one entry of the table whose class may be cold: it catches, or it is passed; the tables are warmer -/
theorem go_stand (X : Stand p l e R s m args below meth c T locs cells slots) {own name : String} {ct : Nat} (hg : g.method = m) (hown : s.vm.findClass own = some m.cls) (hlink : (Cond.classLink own ct name).before args s = true) {cT : ClassId} (hcT : s.vm.findClass name = some cT) {x : ExceptionTableEntry} (hx : covers x g.pc = true) (hct : x.catchType = ct) (h0 : ct ≠ 0)
    {cell : Cell} (hcell : T.heap[a]? = some cell) (hobj : ∀ k, cell.vm ≠ .statics k) {ks : Class} (hks : s.vm.classes[cell.cls]? = some ks) (t : List ExceptionTableEntry) :
    ∃ vm', Stand p l e R s m args below meth c (T.setVm vm') locs cells slots ∧ ∀ (Q : Handler → Pre) (E : CtlPost) (d : Bool) (acts : List Action), wp (findHandler.go g a (x :: t)) Q E e d acts (thrw T g a) ↔ if s.vm.assignable cell.cls cT = true then Q (.found x.handlerPc) d acts (thrw (T.setVm vm') g a) else wp (findHandler.go g a t) Q E e d acts (thrw (T.setVm vm') g a) := by
  have hpl : e.platform.magicAccessors = ({} : Platform).magicAccessors := by rw [X.admits.platform]
  obtain ⟨c', hc', hcl⟩ := Cond.classLink_spec hown hlink e.platform hpl
  cases hcT.symm.trans hc'
  obtain ⟨dk, _, _, kt, hd, _, _, _, _, hkt, _, hopen⟩ := hcl.here
  have hcl₀ := X.warmed.classLinks hcl
  have hW' : s.WarmedH (T.vm.noted m.cls ct (.cls cT)) := X.warmed.noted hd hopen (State.rightAt_cls hcl)
  obtain ⟨ks', hks', -⟩ := hW'.alike.2.2 _ _ hks
  obtain ⟨kt', hkt', -⟩ := hW'.alike.2.2 _ _ hkt
  refine ⟨_, X.noted hW', fun Q E d acts => ?_⟩
  subst hg; subst hct
  have hgv : (Jvm.resolveClass g.method.cls x.catchType).Gives e.toSetting (thrw T g a).vm (.ok cT) (T.vm.noted g.method.cls x.catchType (.cls cT)) := by
    rw [show (thrw T g a).vm = T.vm from Stand.throwing_vm T g a]
    exact resolveClass_links e.toSetting hcl₀
  rw [go_cold hx h0 hgv (by rw [show (thrw T g a).vm = T.vm from Stand.throwing_vm T g a]; no_record) (by rw [show (thrw T g a).heap = T.heap from Stand.throwing_heap T g a]; exact hcell) hobj ⟨ks', hks'⟩ ⟨kt', hkt'⟩, hW'.alike.assignable, thrw_vm]
end CATCH2
theorem step_catchV {e : Env} {s s' : State} {a : Addr} {f : JFrame} {r : List Frame} {pc : Nat} (hfind : ∀ (Q : Handler → Pre) (E : CtlPost) (d : Bool) (acts : List Action), wp (findHandler f a) Q E e d acts s ↔ Q (.found pc) d acts s') :
    (stepThrowing e s a (.java f :: r)).Is (s'.setFrames (.java { f with pc := pc, stack := [.ref a] } :: r)) [] := by
  simp only [stepThrowing, searchFrame, vmDo]
  generalize hr : Sem.go _ e false [] s = res
  obtain ⟨as, rfl, ha⟩ := Sem.eq_ok_of hr (a := Handler.found pc) (s' := s') (acts' := []) (by simp [hfind _ _ _ _])
  exact ⟨rfl, ha⟩
/-- an exception is caught in the walked method; the tables may be warmer then -/
theorem caughtV {p : Program} {l : Launch} {e : Env} {R : Room} {s : State} {m : MethodId} {args : Array Value} {below : List Frame} {meth : Method} {c : Code} {T : State} {locs : List Loc} {cells slots : Nat} {a : Addr} {g : JFrame} (X : Stand p l e R s m args below meth c T locs cells slots) (hg : g.method = m) {vm' : Vm} {pc : Nat}
    (hfind : ∀ (Q : Handler → Pre) (E : CtlPost) (d : Bool) (acts : List Action), wp (findHandler g a) Q E e d acts (thrw T g a) ↔ Q (.found pc) d acts (thrw (T.setVm vm') g a)) {target : State}
    (hrest : Steps p.tables e below ((T.setVm vm').setTop { g with pc := pc, stack := [.ref a] }) target) : Steps p.tables e below (thrw T g a) target := by
  have h : At T g.method c below := by rw [hg]; exact X.here
  obtain ⟨hgo, hw⟩ := h.throwing a
  refine Steps.head hgo hw ?_
  rw [stepThread_throwing (frames_entered h.top _), (step_catchV (s := thrw T g a) hfind).1]
  obtain ⟨g₀, hg0⟩ := Option.isSome_iff_exists.mp h.top
  obtain ⟨r, hr⟩ := State.topJava?_eq_some.mp hg0
  have hr' : (T.setVm vm').frames = .java g₀ :: r := hr
  rw [State.setTop_of_frames _ hr'] at hrest
  show Steps p.tables e below ((((T.setVm vm').setTop g).pushFrame (.throwing a)).setFrames _) target
  rw [State.pushFrame, State.setFrames_setFrames, State.setTop_of_frames _ hr', State.setFrames_setFrames, hr]
  exact hrest
