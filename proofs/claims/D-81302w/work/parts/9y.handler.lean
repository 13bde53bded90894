/-! HANDLER: the table of handlers is gone through; the walk goes on at the one that catches -/
set_option maxRecDepth 100000
section HND
variable {p : Program} {l : Launch} {e : Env} {R : Room} {s : State} {m : MethodId} {args : Array Value} {below : List Frame} {meth : Method} {c : Code} {H : Heap} {locs : List Loc} {cells slots : Nat} {Q : State → Prop}
variable {g : JFrame} {x : Addr} {hpc : Nat} {t : List ExceptionTableEntry} {y : ExceptionTableEntry}
/-- the search through these entries ends at a handler; the tables may be warmer then -/
def GT (p : Program) (l : Launch) (e : Env) (R : Room) (s : State) (m : MethodId) (args : Array Value) (below : List Frame) (meth : Method) (c : Code) (H : Heap) (locs : List Loc) (cells slots : Nat) (g : JFrame) (x : Addr) (hpc : Nat) (es : List ExceptionTableEntry) : Prop :=
  ∀ T : State, T.heap = H → Stand p l e R s m args below meth c T locs cells slots → ∃ vm', Stand p l e R s m args below meth c (T.setVm vm') locs cells slots ∧ ∀ (Q : Handler → Pre) (E : CtlPost) (d : Bool) (acts : List Action), wp (findHandler.go g x es) Q E e d acts (thrw T g x) ↔ Q (.found hpc) d acts (thrw (T.setVm vm') g x)
theorem GT.skip (hy : covers y g.pc = false) (h : GT p l e R s m args below meth c H locs cells slots g x hpc t) : GT p l e R s m args below meth c H locs cells slots g x hpc (y :: t) := by
  intro T hT X
  obtain ⟨vm', X', h'⟩ := h T hT X
  exact ⟨vm', X', fun Q E d acts => (W.findHandler_go_skip hy).trans (h' Q E d acts)⟩
theorem GT.hit {own name C : String} {ct : Nat} (hg : g.method = m) (hown : s.vm.findClass own = some m.cls) (hlink : (Cond.classLink own ct name).before args s = true) (hcast : (Cond.castable C name).before args s = true) (hx : exc C s H x) (hy : covers y g.pc = true) (hct : y.catchType = ct) (h0 : ct ≠ 0) (hpcE : y.handlerPc = hpc) : GT p l e R s m args below meth c H locs cells slots g x hpc (y :: t) := by
  intro T hT X
  obtain ⟨cell, q1, q2, q3⟩ := hx
  obtain ⟨c3, c4, w1, w2, w3⟩ := Cond.castable_spec hcast
  cases q2.symm.trans w1
  obtain ⟨ks, hks⟩ := Vm.classAt_of_findClass q2
  obtain ⟨vm', X', h'⟩ := go_stand X hg hown hlink w2 hy hct h0 (by rw [hT]; exact q1) q3 hks t
  refine ⟨vm', X', fun Q E d acts => (h' Q E d acts).trans ?_⟩
  rw [if_pos w3, hpcE]
theorem GT.pass {own name C : String} {ct : Nat} (hg : g.method = m) (hown : s.vm.findClass own = some m.cls) (hlink : (Cond.classLink own ct name).before args s = true) {c3 c4 : ClassId} (w1 : s.vm.findClass C = some c3) (w2 : s.vm.findClass name = some c4) (w3 : s.vm.assignable c3 c4 = false) (hx : exc C s H x) (hy : covers y g.pc = true) (hct : y.catchType = ct) (h0 : ct ≠ 0) (h : GT p l e R s m args below meth c H locs cells slots g x hpc t) : GT p l e R s m args below meth c H locs cells slots g x hpc (y :: t) := by
  intro T hT X
  obtain ⟨cell, q1, q2, q3⟩ := hx
  cases q2.symm.trans w1
  obtain ⟨ks, hks⟩ := Vm.classAt_of_findClass q2
  obtain ⟨vm', X', h'⟩ := go_stand X hg hown hlink w2 hy hct h0 (by rw [hT]; exact q1) q3 hks t
  obtain ⟨vm2, X2, h2⟩ := h (T.setVm vm') hT X'
  refine ⟨vm2, X2, fun Q E d acts => (h' Q E d acts).trans ?_⟩
  rw [if_neg (by rw [w3]; decide)]
  exact h2 Q E d acts
/-- the throw is caught here -/
theorem WT.caught (hg : g.method = m) {es : List ExceptionTableEntry} (htab : c.exceptionTable.toList = es) (hG : GT p l e R s m args below meth c H locs cells slots g x hpc es) (kk : W p l e R s m args below meth c H locs cells slots Q { g with pc := hpc, stack := [.ref x] }) : WT p l e R s m args below meth c H locs cells slots Q g x := by
  intro T hT X
  obtain ⟨vm', X', h'⟩ := hG T hT X
  obtain ⟨t, a1, b1⟩ := kk (T.setVm vm') hT X'
  refine ⟨t, caughtV X hg (vm' := vm') (fun Q E d acts => ?_) a1, b1⟩
  rw [W.findHandler_eq (meth := meth) (code := c) (by rw [hg, show (thrw T g x).vm = T.vm from Stand.throwing_vm T g x]; exact X.method') X.code, htab]
  exact h' Q E d acts
end HND
