/-! OVW: rows for the machine's throws: in a frame that may catch, and out of System.arraycopy -/
set_option maxRecDepth 100000
theorem va_P.ns {D : va_G} {cl : List vw_C} {ws : va_W} {H : Heap} (h : va_P D cl ws H) {k q : Nat} {x : va_E} (hk : ws[k]? = some (q, x)) {cell : Cell} (hc : H[q]? = some cell) : cell.vm.isStatics = false := by
  have h1 := h k _ hk
  cases x with
  | inl y =>
    have h2 : H[q]? = some (vp_cell y.1 y.2) := h1
    cases hc.symm.trans h2
    obtain ⟨cA, n, f | f | f | f | f⟩ := y <;> rfl
  | inr y =>
    obtain ⟨r, -, c2, g1, -, g3, -⟩ := h1
    cases hc.symm.trans g1
    rw [g3]; rfl
theorem kad_at {dA : Nat → ClassId} {a : Nat → Nat} {σ : MS} {q : Nat} (h : kAd a q) : ∃ (k : Nat) (x : va_E), (kW dA a σ)[k]? = some (q, x) := by
  obtain ⟨k, hk, rfl⟩ := h
  rcases List.mem_cons.mp hk with rfl | hk
  · exact ⟨0, _, rfl⟩
  · obtain ⟨i, hi⟩ := List.getElem?_of_mem hk
    exact ⟨i + 1, kE dA σ k, by show (kL.map (fun k => (a k, kE dA σ k)))[i]? = _; rw [List.getElem?_map, hi]; rfl⟩
theorem shA_ns {D : va_G} {dA : Nat → ClassId} {a : Nat → Nat} {σ : MS} {sh : Shs} {so ro : Nat → Nat} {sz : Nat} {H : Heap} (hP : va_P D vwCl (kW dA a σ) H) (hSH : SHT D dA (a 14) sh so ro H) (hz : H.size = sz) : ∀ q, shA a sh ro sz q → ∀ cell, H[q]? = some cell → cell.vm.isStatics = false := by
  intro q hq cell hc
  rcases hq with h | h | ⟨k, hk, hn, h⟩ | h
  · obtain ⟨k, x, e⟩ := kad_at (dA := dA) (σ := σ) h
    exact hP.ns e hc
  · subst h
    exact hSH.1.ns (k := 0) rfl hc
  · subst h
    cases hs : sh k with
    | none => exact absurd hs hn
    | some y =>
      obtain ⟨w, L, f⟩ := y
      exact (hSH.2 k hk w L f hs).2.2.2.ns (k := 0) rfl hc
  · have := (Array.getElem?_eq_some_iff.mp hc).1
    omega
section OVW
variable {p : Program} {l : Launch} {e : Env} {R : Room} {s : State} {m : MethodId} {args : Array Value} {below : List Frame} {meth : Method} {c : Code} {H : Heap} {locs : List Loc} {cells slots : Nat} {Q : State → Prop} {A A0 : Nat → Prop} {H0 : Heap} {g g0 : JFrame} {x : Addr}
theorem st_push {T : State} (X : Stand p l e R s m args below meth c T locs cells slots) (g : JFrame) (f : Frame) : (T.setTop g).pushFrame f = T.setFrames (f :: .java g :: below) := by
  obtain ⟨g₀, hfr⟩ := X.frames_eq
  rw [State.pushFrame, State.frames_setTop _ hfr, State.setTop_of_frames _ hfr, State.setFrames_setFrames]
theorem va_S.made {H1 : Heap} {L : List Loc} (hS : va_S A0 H0 H locs) (hz : H.size ≤ H1.size) (ho : ∀ q, q < H.size → H1[q]? = H[q]?) (hL : ∀ y ∈ L, A0 y.base) : va_S A0 H0 H1 (locs ++ L) := by
  refine ⟨Nat.le_trans hS.1 hz, fun q g1 g2 => ?_, fun y hy => ?_⟩
  · rw [ho q (Nat.lt_of_lt_of_le g1 hS.1)]
    exact hS.2.1 q g1 g2
  · rcases List.mem_append.mp hy with h | h
    · exact hS.2.2 y h
    · exact hL y h
/-- a NullPointerException of the machine's in a frame that may catch -/
theorem wt_npe (hexec : p.tables.exec = Jvm.exec) (htr : e.platform.stackTraces = false) (h : ∀ a ∈ Bundle.npeArmAtoms 8, a.before args s = true) (hns : ∀ q, A0 q → ∀ cell, s.heap[q]? = some cell → cell.vm.isStatics = false) (hsize : g.locals.size = c.maxLocals) (hRframes : 7 < R.frames) (hRlocals : 2 * g.monitorRoom + (g.stack.map fun v => v.category).sum + 10240 ≤ R.locals) (hRcells : cells + 1 ≤ R.cells) (hRslots : slots + 8 ≤ R.slots)
    (hS : va_S A0 H0 H locs) (hA : ∀ q, H.size ≤ q → A0 q)
    (hstep : ∀ T : State, T.heap = H → Stand p l e R s m args below meth c T locs cells slots → ∃ T' : State, T'.heap = H ∧ Stand p l e R s m args below meth c T' locs cells slots ∧ ∀ target, Steps p.tables e below ((T'.setTop g).pushFrame (.throwNew "java/lang/NullPointerException" none none)) target → Steps p.tables e below (T.setTop g0) target)
    (kk : ∀ (x : Addr) (H1 : Heap) (locs1 : List Loc), exc "java/lang/NullPointerException" s H1 x → H.size ≤ H1.size → (∀ q, q < H.size → ¬ False → H1[q]? = H[q]?) → va_S A0 H0 H1 locs1 → WT p l e R s m args below meth c H1 locs1 (cells + 1) (slots + 8) Q g x) : W p l e R s m args below meth c H locs cells slots Q g0 := by
  intro T0 hT0 X0
  obtain ⟨T, hT, X, hst⟩ := hstep T0 hT0 X0
  obtain ⟨U, L, ce, XU, hL, hz, ho, hce, hcl, hvm, st⟩ := npeOver X hexec htr h (fun y hy cell hc => hns _ (hS.2.2 y hy) cell hc) (F := .java g :: below) ⟨[.java g], rfl⟩ (ovr_java X hsize hRframes hRlocals) hRcells hRslots
  have hT0 := hT0
  subst hT
  have hS1 : va_S A0 H0 U.heap (locs ++ L) := hS.made (by omega) ho (fun y hy => hA _ (by rw [hL y hy]; exact Nat.le_refl _))
  obtain ⟨t, a1, b1⟩ := kk T.heap.size U.heap (locs ++ L) ⟨ce, hce, hcl, fun k hk => by rw [hvm] at hk; cases hk⟩ (by omega) (fun q h _ => ho q h) hS1 U rfl XU
  refine ⟨t, hst t ?_, b1⟩
  rw [st_push X]
  refine st t ?_
  rw [← st_push XU]
  exact a1
/-- an exception leaves a method that catches nothing -/
theorem WT.leave {C : String} {mc ms : Nat} (hg : g.method = m) (hlocked : g.locked = none) (hentered : g.entered = []) (htab : c.exceptionTable.isEmpty = true) (hlk : meth.locks = false) (hx : exc C s H x) (hS : va_S A s.heap H locs) (hc : cells ≤ mc ∧ slots ≤ ms) : WT p l e R s m args below meth c H locs cells slots (TZ below A C s mc ms) g x := by
  intro T hT X
  have hout : ∀ y ∈ c.exceptionTable.toList, covers y g.pc = false := by
    intro y hy
    rw [Array.isEmpty_iff] at htab
    rw [htab] at hy
    cases hy
  obtain ⟨h1, h2, h3, h4, h5⟩ := X.leaveThrown x hg hlocked hentered hout hlk
  subst hT
  exact ⟨_, h1, x, h2, h3, ⟨hx, hS.1, hS.2.1⟩, h4, locs, h5.weaken (fun y hy _ => hy) hc.1 hc.2, hS.2.2⟩
/-- the note of a throw leaves a native's frame -/
theorem nat_leave {tb : Tables} {F : List Frame} {u target : State} {a : Addr} {f : NFrame} (hat : At u m c below) (hr : ∃ mid, F = mid ++ below) (haw : f.awaiting = false) (hl : f.locked = none) (hrest : Steps tb e below (u.setFrames (.throwing a :: F)) target) :
    Steps tb e below (u.setFrames (.throwing a :: .native f :: F)) target := by
  obtain ⟨mid, hmid⟩ := hr
  obtain ⟨g₀, hg⟩ := Option.isSome_iff_exists.mp hat.top
  obtain ⟨r, hr'⟩ := State.topJava?_eq_some.mp hg
  have hf : (u.setFrames (.throwing a :: .native f :: F)).frames = .throwing a :: .native f :: F := State.frames_setFrames _ (State.cur_lt_of_frames hr')
  refine Steps.head ⟨hat.running, by simpa using hat.runnable, by simpa using hat.alone⟩ ⟨.throwing a :: .native f :: mid, by rw [hf, hmid]; rfl, by simp, by simp⟩ ?_
  have hst : (stepThread tb e (u.setFrames (.throwing a :: .native f :: F))).1 = (u.setFrames (.throwing a :: .native f :: F)).setFrames (.throwing a :: F) := by
    unfold stepThread
    simp only [hf]
    unfold stepThrowing
    simp only [haw, Bool.false_eq_true, if_false, hl]
    unfold vmDo
    generalize hr : Sem.go _ e false _ _ = res
    obtain ⟨as, rfl, -⟩ := Sem.eq_ok_of hr (a := true) (s' := u.setFrames (.throwing a :: .native f :: F)) (acts' := []) (by simp [leaveIfLocked, unmarked, Action.isMark])
    rfl
  rw [hst, State.setFrames_setFrames]
  exact hrest
/-- a native throws: the note lies over its frame -/
theorem nat_note {tb : Tables} {T target : State} (h : At T g.method c below) {mN : MethodId} {methN : Method} {k : Class} {row : NativeRow} {as : Array Value} (acts : List Action)
    (hk : T.vm.classes[mN.cls]? = some k) (hx : k.methods[mN.idx]? = some methN) (hboot : k.loader = none) (hnat : methN.isNative = true) (hc : methN.code = none) (hl : methN.locks = false)
    (hrow : NativeRow.find? tb.natives k.name methN.name methN.desc = some row)
    (hroom : e.platform.stackFull (((T.setTop g).threads[(T.setTop g).cur]?).getD { frames := [] }) (T.setTop g).frames (nativeFrameWords k.name methN.name (operandWords as.toList)) = false)
    {cls : String} {msg : Option String}
    (hw : ∀ E : CtlPost, (∀ acts', E (.throwNew cls msg) acts' ((T.setTop g).pushFrame (.native { method := mN, args := seenByNative methN as, locked := none }))) →
      wp (row.sem (seenByNative methN as)) (fun _ _ _ _ => False) E e false [] ((T.setTop g).pushFrame (.native { method := mN, args := seenByNative methN as, locked := none })))
    (hrest : Steps tb e below (((T.setTop g).pushFrame (.native { method := mN, args := seenByNative methN as, locked := none })).pushFrame (.throwNew cls msg none)) target) :
    Steps tb e below (doInvoke e (T.setTop g) acts mN as).1 target := by
  have hm : (T.setTop g).vm.method? mN = some methN := by
    show T.vm.method? mN = some methN
    simp [Vm.method?, hk, hx]
  have hroom' : e.platform.stackFull (((T.setTop g).threads[(T.setTop g).cur]?).getD { frames := [] }) (T.setTop g).frames (nativeFrameWords ((((T.setTop g).vm.classes[mN.cls]?).map (·.name)).getD "") methN.name (operandWords as.toList)) = false := by
    have : (((T.setTop g).vm.classes[mN.cls]?).map (·.name)).getD "" = k.name := by
      show ((T.vm.classes[mN.cls]?).map (·.name)).getD "" = k.name
      simp [hk]
    rw [this]; exact hroom
  rw [(Fast.doInvoke_native (s := T.setTop g) (e := e) (acts := acts) (args := as) hm hnat hc hl hroom').1]
  have hfe := frames_entered (g := g) h.top (.native { method := mN, args := seenByNative methN as, locked := none })
  obtain ⟨mid, hmid⟩ := h.above
  refine Steps.head ⟨h.running, by simpa using h.runnable, by simpa using h.alone⟩ ⟨.native { method := mN, args := seenByNative methN as, locked := none } :: .java g :: mid, by rw [hfe, hmid]; rfl, by simp, by simp⟩ ?_
  rw [stepThread_native (f := { method := mN, args := seenByNative methN as, locked := none }) (k := k) (x := methN) (row := row) hfe hk hx hboot hrow rfl]
  have hw1 : wpRun (row.sem (seenByNative methN as)) (fun _ _ _ => False) (fun y s₁ _ => y = .throwNew cls msg ∧ s₁ = (T.setTop g).pushFrame (.native { method := mN, args := seenByNative methN as, locked := none })) e ((T.setTop g).pushFrame (.native { method := mN, args := seenByNative methN as, locked := none })) := hw _ (fun _ => ⟨rfl, rfl⟩)
  have hw2 := (wpRun_iff_run _ _ _ _ _).mp hw1
  cases hr : (row.sem (seenByNative methN as)).run e ((T.setTop g).pushFrame (.native { method := mN, args := seenByNative methN as, locked := none })) with
  | ok v s₁ acts₁ => rw [hr] at hw2; exact hw2.elim
  | ctl y s₁ acts₁ =>
    rw [hr] at hw2
    cases y <;> first
      | exact hw2.elim
      | (obtain ⟨h1, h2⟩ := hw2; cases h1; subst h2; exact hrest)
      | (obtain ⟨h1, -⟩ := hw2; cases h1)
end OVW
