/-! TCOF: a contract of a method that throws, out of its walk; the NullPointerException's end -/
set_option maxRecDepth 100000
/-- where a walk ends that throws -/
abbrev TZ (below : List Frame) (A : Nat → Prop) (C : String) (s : State) (mc ms : Nat) : State → Prop := fun t =>
  ∃ x, t.status = .running ∧ Ended t below (.threw x) ∧ (exc C s t.heap x ∧ va_F A s t) ∧ s.WarmedH t.vm ∧ ∃ L, s.sameButNew ({ t with vm := s.vm } : State) L mc ms ∧ ∀ q ∈ L, A q.base
theorem TC.of {l : Launch} {y : MethodName} {code : ByteArray} {n : Nat} {ret : Option FieldType} {fr lc mc ms : Nat} {Kp : State → Prop} {av : List Value} {Pre : Heap → Prop} {A : Nat → Prop} {C : String} (hy : plainName y.cls = true) (hav : (lg_sl av).length ≤ n)
    (body : ∀ (p : Program) (e : Env) (s : State) (m : MethodId) (below : List Frame) (meth : Method) (c : Code) (ls : Array Slot), CallFix p m c code n s av.toArray lw_all y.cls → meth.sig.returnType = ret → meth.locks = false → c.exceptionTable.isEmpty = true → Kp s → Pre s.heap → lv_has ls n (lv_args 0 av) →
      W p l e ({ frames := fr, cells := mc, slots := ms, locals := lc }) s m av.toArray below meth c s.heap [] 0 0 (TZ below A C s mc ms) (F0 m 0 ls [])) : TC l y code n ret fr lc mc ms Kp av Pre A C := by
  unfold TC TMet
  refine MetFree.of_bodyS (code := code) (maxLocals := n) (ret := ret) hy ?_ ?_
  · intro args s m h hn
    obtain ⟨meth, c, h1, h2, h3, h4, h5, h6, -, -⟩ := Cond.code_spec hn (atoms_spec (ws := ws_ y code n ret) h _ List.mem_cons_self)
    exact ⟨meth, c, h1, h2, h3, h4, h5, h6⟩
  · intro p e s m args below meth c s₁ B hml hP _
    obtain ⟨rfl, hK, hPh⟩ := hP
    have hts := atoms_spec (ws := ws_ y code n ret) B.pre
    have hts' : ∀ w ∈ lw_all, w.before av.toArray s = true := fun w h => hts w (List.mem_cons_of_mem _ h)
    have htab : c.exceptionTable.isEmpty = true := by
      obtain ⟨meth', c', h1, h2, -, -, -, -, h7, -⟩ := Cond.code_spec B.named (hts _ List.mem_cons_self)
      cases B.method.symm.trans h1
      have hc : meth.code = some c := (Stand.of_body B).code
      cases hc.symm.trans h2
      exact h7
    have hl := lv_entry av (n := n) hav
    have hh0 : s₁.heap = s.heap := by rw [B.state]; rfl
    have key : W p l e ({ frames := fr, cells := mc, slots := ms, locals := lc }) s m av.toArray below meth c s.heap [] 0 0 (TZ below A C s mc ms) (entryFrame m av.toArray n) := by
      rw [lg_entry_eq]
      generalize (lg_sl av ++ List.replicate (n - (lg_sl av).length) Slot.unset).toArray = ls at hl ⊢
      exact body p e s m below meth c ls ⟨B.exec, B.bytes, hml, findClass_of_methodNamed B.named, hts'⟩ B.returns B.notSynchronized htab hK hPh hl
    obtain ⟨t, a1, x, b1, b2, b3, b4, b5⟩ := key s₁ hh0 (Stand.of_body B)
    exact ⟨t, .threw x, a1, b1, b2, x, rfl, b3, b4, b5⟩
theorem F_same {A : Nat → Prop} {s t : State} {locs : List Loc} {k n : Nat} (h : s.sameButNew t locs k n) (hl : ∀ q ∈ locs, A q.base) : s.heap.size ≤ t.heap.size ∧ ∀ q : Nat, q < s.heap.size → ¬ A q → t.heap[q]? = s.heap[q]? := by
  refine ⟨h.2.1, fun q hq hA => ?_⟩
  obtain ⟨cl, hcl⟩ : ∃ cl, s.heap[q]? = some cl := ⟨_, Array.getElem?_eq_getElem hq⟩
  obtain ⟨c', h1, h2, h3, h4⟩ := h.2.2.2.2.2 q cl hcl
  have e : c'.slots = cl.slots := by
    apply Array.ext_getElem?
    intro i
    exact h4 i (fun hm => hA (hl _ hm))
  rw [h1, hcl, h2, e]
section NPE
variable {p : Program} {l : Launch} {e : Env} {R : Room} {s : State} {m : MethodId} {args : Array Value} {below : List Frame} {meth : Method} {c : Code} {H : Heap} {locs : List Loc} {cells slots : Nat} {A : Nat → Prop}
/-- the walk ends: a NullPointerException leaves the method -/
theorem tz_npe {g : JFrame} (hexec : p.tables.exec = Jvm.exec) (htr : e.platform.stackTraces = false) (h : ∀ a ∈ Bundle.npeArmAtoms 8, a.before args s = true) (hlocs : ∀ x ∈ locs, ∀ cell, s.heap[x.base]? = some cell → cell.vm.isStatics = false) (hA : ∀ x ∈ locs, A x.base)
    (hg : g.method = m) (hsize : g.locals.size = c.maxLocals) (hlocked : g.locked = none) (hentered : g.entered = []) (htab : c.exceptionTable.isEmpty = true) (hlocks : meth.locks = false)
    (hRframes : 7 < R.frames) (hRlocals : 2 * g.monitorRoom + (g.stack.map fun v => v.category).sum + 10240 ≤ R.locals) (hRcells : cells + 1 ≤ R.cells) (hRslots : slots + 8 ≤ R.slots) {g0 : JFrame}
    (hstep : ∀ T : State, T.heap = H → Stand p l e R s m args below meth c T locs cells slots → ∀ target, Steps p.tables e below ((T.setTop g).pushFrame (.throwNew "java/lang/NullPointerException" none none)) target → Steps p.tables e below (T.setTop g0) target) :
    W p l e R s m args below meth c H locs cells slots (TZ below A "java/lang/NullPointerException" s (cells + 1) (slots + 8)) g0 := by
  intro T hT X
  have hout : ∀ x ∈ c.exceptionTable.toList, covers x g.pc = false := by
    intro x hx
    rw [Array.isEmpty_iff] at htab
    rw [htab] at hx
    cases hx
  obtain ⟨U, h1, h2, h3, h4, h5, cell, h6, h7⟩ := X.npeArm hexec htr h hlocs hg hsize hlocked hentered hout hRframes hRlocals hRcells hRslots hlocks
  have hF : va_F A s U := F_same (t := ({ U with vm := s.vm } : State)) h5 hA
  refine ⟨U, hstep T hT X U h1, T.heap.size, h2, h3, ⟨⟨cell, h6, h7.cls, fun k hk => by rw [h7.vm] at hk; cases hk⟩, hF⟩, h4, locs, h5, hA⟩
end NPE
