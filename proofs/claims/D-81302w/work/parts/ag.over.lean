/-! OVER: an exception is made over any frames: the machine's throw in a frame that may catch, and a native's (by program: gen/mkover.py) -/
set_option maxRecDepth 100000
theorem over_in {below F : List Frame} {U : State} {m0 : MethodId} {c : Code} (hU : At U m0 c below) (hF : ∃ mid, F = mid ++ below) (j : JFrame) {m : MethodId} {meth : Method} {code : Code} (hm : U.vm.method? m = some meth) (hc : meth.code = some code) (hplain : U.plainMethod m) :
    (U.setFrames F).frames = F ∧ At ((U.setFrames F).pushFrame (.java j)) m code below ∧ ((U.setFrames F).pushFrame (.java j)).frames = .java j :: F ∧ U.cur < U.threads.size := by
  obtain ⟨g₀, hg⟩ := Option.isSome_iff_exists.mp hU.top
  obtain ⟨r, hr'⟩ := State.topJava?_eq_some.mp hg
  obtain ⟨mid, hmid⟩ := hF
  have hcur : U.cur < U.threads.size := State.cur_lt_of_frames hr'
  have hfN : (U.setFrames F).frames = F := State.frames_setFrames _ hcur
  have hcurN : (U.setFrames F).cur < (U.setFrames F).threads.size := by simpa [State.setFrames] using hcur
  have hgoN : (U.setFrames F).goesOn := ⟨hU.running, by simpa using hU.runnable, by simpa using hU.alone⟩
  refine ⟨hfN, At.pushOn _ hgoN hcurN ⟨mid, by rw [hfN, hmid]⟩ hm hc hplain, ?_, hcur⟩
  rw [show ((U.setFrames F).pushFrame (.java j)).frames = .java j :: (U.setFrames F).frames from State.frames_setFrames _ hcurN, hfN]
theorem over_retN {tb : Tables} [Ours tb] {e : Env} {below F : List Frame} {U target : State} {m0 : MethodId} {c : Code} (hU : At U m0 c below) (hexec : tb.exec = Jvm.exec) {Hf : State → State} (hH : HeapOnly Hf) (hF : ∃ mid, F = mid ++ below) (a : Addr) {m : MethodId} {meth : Method} {code : Code}
    (hm : U.vm.method? m = some meth) (hc : meth.code = some code) (hplain : U.plainMethod m) (hl : meth.locks = false) (h5 : decode code.code 4 = .ok (.return_, 1)) (hrest : Steps tb e below ((Hf U).setFrames (.throwing a :: F)) target) :
    Steps tb e below ((Hf ((U.setFrames (.thenThrow a :: F)).pushFrame (.java (pass0J m a 0 [])))).setTop (pass0J m a 4 [])) target := by
  obtain ⟨mid, hmid⟩ := hF
  obtain ⟨hfN, hI, hfI, hcurU⟩ := over_in (F := .thenThrow a :: F) hU ⟨.thenThrow a :: mid, by rw [hmid]; rfl⟩ (pass0J m a 0 []) hm hc hplain
  have hB : At (Hf ((U.setFrames (.thenThrow a :: F)).pushFrame (.java (pass0J m a 0 [])))) m code below := hH.at_ hI
  jvm_step hB [hexec, h5, return_.wp_sem]
  intro acts2
  have hfH : (Hf ((U.setFrames (.thenThrow a :: F)).pushFrame (.java (pass0J m a 0 [])))).frames = .java (pass0J m a 0 []) :: .thenThrow a :: F := by rw [hH.frames]; exact hfI
  rw [ret_to (t := Hf ((U.setFrames (.thenThrow a :: F)).pushFrame (.java (pass0J m a 0 [])))) (f := (pass0J m a 4 [])) (f₀ := (pass0J m a 0 [])) (below := .thenThrow a :: F) (fs := .thenThrow a :: F) (meth := meth) hfH (by rw [hH.vm]; exact hm) hl rfl rfl rfl acts2]
  have hHI : ∀ G, (Hf ((U.setFrames (.thenThrow a :: F)).pushFrame (.java (pass0J m a 0 [])))).setFrames G = (Hf U).setFrames G := by
    intro G
    rw [State.pushFrame, hH.setFrames, hH.setFrames, State.setFrames_setFrames, State.setFrames_setFrames]
  rw [hHI]
  have hAW : At (Hf U) m0 c below := hH.at_ hU
  obtain ⟨g₀, hg⟩ := Option.isSome_iff_exists.mp hAW.top
  obtain ⟨r, hr'⟩ := State.topJava?_eq_some.mp hg
  have hcurH : (Hf U).cur < (Hf U).threads.size := State.cur_lt_of_frames hr'
  have hf1 : ((Hf U).setFrames (.thenThrow a :: F)).frames = .thenThrow a :: F := State.frames_setFrames _ hcurH
  refine Steps.head ⟨hAW.running, by simpa using hAW.runnable, by simpa using hAW.alone⟩ ⟨.thenThrow a :: mid, by rw [hf1, hmid]; rfl, by simp, by simp⟩ ?_
  rw [stepThread_thenThrow hf1]
  show Steps tb e below (((Hf U).setFrames (.thenThrow a :: F)).setFrames (.throwing a :: F)) target
  rw [State.setFrames_setFrames]
  exact hrest
theorem over_ctorN {tb : Tables} [Ours tb] {e : Env} {below F : List Frame} {s₀ U : State} {m0 : MethodId} {c : Code} (hU : At U m0 c below) (hexec : tb.exec = Jvm.exec) {Hf : State → State} (hH : HeapOnly Hf) (hF : ∃ mid, F = mid ++ below) (P1 : PassC) (L1 : P1.Links0 e.platform s₀) (hW : s₀.WarmedH U.vm) (a : Addr)
    (hroom : e.platform.stackFull (((U.setFrames (.thenThrow a :: F)).threads[(U.setFrames (.thenThrow a :: F)).cur]?).getD { frames := [] }) (U.setFrames (.thenThrow a :: F)).frames 1 = false)
    (hsup : ∀ vm1, s₀.WarmedH vm1 → At (((U.setVm vm1).setFrames (.thenThrow a :: F)).pushFrame (.java (pass0J P1.m a 0 []))) P1.m P1.code below → ∃ vm2, s₀.WarmedH vm2 ∧ ∀ t' : State,
      Steps tb e below ((Hf (((U.setVm vm2).setFrames (.thenThrow a :: F)).pushFrame (.java (pass0J P1.m a 0 [])))).setTop (pass0J P1.m a 4 [])) t' →
      Steps tb e below (doInvoke e ((((U.setVm vm1).setFrames (.thenThrow a :: F)).pushFrame (.java (pass0J P1.m a 0 []))).setTop (pass0J P1.m a 1 [])) [] P1.sup #[.ref a]).1 t') :
    ∃ vm', s₀.WarmedH vm' ∧ ∀ target, Steps tb e below ((Hf (U.setVm vm')).setFrames (.throwing a :: F)) target → Steps tb e below (doInvoke e (U.setFrames (.thenThrow a :: F)) [] P1.m #[.ref a]).1 target := by
  have hmW := hW.methodAt L1.method
  have hF' : ∃ mid, (Frame.thenThrow a :: F) = mid ++ below := by obtain ⟨mid, hmid⟩ := hF; exact ⟨.thenThrow a :: mid, by rw [hmid]; rfl⟩
  obtain ⟨hfN, hI, hfI, -⟩ := over_in hU hF' (pass0J P1.m a 0 []) hmW L1.code (hW.plainAt L1.plain)
  obtain ⟨vm1, hW1, st1⟩ := Steps.invokeInitCold (tb := tb) (s₀ := s₀) (U := ((U.setFrames (.thenThrow a :: F)).pushFrame (.java (pass0J P1.m a 0 [])))) (f := pass0J P1.m a 1 [.ref a]) (args := []) (rest := []) (a := a) hI hexec L1.at1 hW L1.links L1.right L1.notHandle L1.cls L1.file L1.pool
    L1.supClass L1.supMethod L1.supName L1.supStatic L1.supAbstract L1.supFound L1.supParams.symm rfl
  obtain ⟨vm2, hW2, st2⟩ := hsup vm1 hW1 (hI.setVm (hW.alike.symm.trans hW1.alike))
  refine ⟨vm2, hW2, fun target hrest => ?_⟩
  rw [(doInvoke_java (s := (U.setFrames (.thenThrow a :: F))) (e := e) (acts := []) (args := #[.ref a]) (meth := P1.meth) (code := P1.code) hmW L1.code L1.locks (by rw [L1.locals]; exact hroom)).1, L1.locals]
  show Steps tb e below ((U.setFrames (.thenThrow a :: F)).pushFrame (.java (pass0J P1.m a 0 []))) target
  rw [← State.setTop_self (s := ((U.setFrames (.thenThrow a :: F)).pushFrame (.java (pass0J P1.m a 0 [])))) (State.topJava?_of_frames hfI)]
  jvm_step hI [hexec, L1.at0, Value.isRef]
  refine st1 target (st2 target ?_)
  exact over_retN (U := U.setVm vm2) (hU.setVm (hW.alike.symm.trans hW2.alike)) hexec hH hF a (hW2.methodAt L1.method) L1.code (hW2.plainAt (U := U.setVm vm2) L1.plain) L1.locks L1.at4 hrest
theorem over_retS {tb : Tables} [Ours tb] {e : Env} {below F : List Frame} {U target : State} {m0 : MethodId} {c : Code} (hU : At U m0 c below) (hexec : tb.exec = Jvm.exec) {Hf : State → State} (hH : HeapOnly Hf) (hF : ∃ mid, F = mid ++ below) (a str : Addr) {m : MethodId} {meth : Method} {code : Code}
    (hm : U.vm.method? m = some meth) (hc : meth.code = some code) (hplain : U.plainMethod m) (hl : meth.locks = false) (h5 : decode code.code 5 = .ok (.return_, 1)) (hrest : Steps tb e below ((Hf U).setFrames (.throwing a :: F)) target) :
    Steps tb e below ((Hf ((U.setFrames (.thenThrow a :: F)).pushFrame (.java (passJ m a (.ref str) 0 [])))).setTop (passJ m a (.ref str) 5 [])) target := by
  obtain ⟨mid, hmid⟩ := hF
  obtain ⟨hfN, hI, hfI, hcurU⟩ := over_in (F := .thenThrow a :: F) hU ⟨.thenThrow a :: mid, by rw [hmid]; rfl⟩ (passJ m a (.ref str) 0 []) hm hc hplain
  have hB : At (Hf ((U.setFrames (.thenThrow a :: F)).pushFrame (.java (passJ m a (.ref str) 0 [])))) m code below := hH.at_ hI
  jvm_step hB [hexec, h5, return_.wp_sem]
  intro acts2
  have hfH : (Hf ((U.setFrames (.thenThrow a :: F)).pushFrame (.java (passJ m a (.ref str) 0 [])))).frames = .java (passJ m a (.ref str) 0 []) :: .thenThrow a :: F := by rw [hH.frames]; exact hfI
  rw [ret_to (t := Hf ((U.setFrames (.thenThrow a :: F)).pushFrame (.java (passJ m a (.ref str) 0 [])))) (f := (passJ m a (.ref str) 5 [])) (f₀ := (passJ m a (.ref str) 0 [])) (below := .thenThrow a :: F) (fs := .thenThrow a :: F) (meth := meth) hfH (by rw [hH.vm]; exact hm) hl rfl rfl rfl acts2]
  have hHI : ∀ G, (Hf ((U.setFrames (.thenThrow a :: F)).pushFrame (.java (passJ m a (.ref str) 0 [])))).setFrames G = (Hf U).setFrames G := by
    intro G
    rw [State.pushFrame, hH.setFrames, hH.setFrames, State.setFrames_setFrames, State.setFrames_setFrames]
  rw [hHI]
  have hAW : At (Hf U) m0 c below := hH.at_ hU
  obtain ⟨g₀, hg⟩ := Option.isSome_iff_exists.mp hAW.top
  obtain ⟨r, hr'⟩ := State.topJava?_eq_some.mp hg
  have hcurH : (Hf U).cur < (Hf U).threads.size := State.cur_lt_of_frames hr'
  have hf1 : ((Hf U).setFrames (.thenThrow a :: F)).frames = .thenThrow a :: F := State.frames_setFrames _ hcurH
  refine Steps.head ⟨hAW.running, by simpa using hAW.runnable, by simpa using hAW.alone⟩ ⟨.thenThrow a :: mid, by rw [hf1, hmid]; rfl, by simp, by simp⟩ ?_
  rw [stepThread_thenThrow hf1]
  show Steps tb e below (((Hf U).setFrames (.thenThrow a :: F)).setFrames (.throwing a :: F)) target
  rw [State.setFrames_setFrames]
  exact hrest
theorem over_ctorS {tb : Tables} [Ours tb] {e : Env} {below F : List Frame} {s₀ U : State} {m0 : MethodId} {c : Code} (hU : At U m0 c below) (hexec : tb.exec = Jvm.exec) {Hf : State → State} (hH : HeapOnly Hf) (hF : ∃ mid, F = mid ++ below) (P1 : PassC) (L1 : P1.LinksS e.platform s₀) (hW : s₀.WarmedH U.vm) (a str : Addr)
    (hroom : e.platform.stackFull (((U.setFrames (.thenThrow a :: F)).threads[(U.setFrames (.thenThrow a :: F)).cur]?).getD { frames := [] }) (U.setFrames (.thenThrow a :: F)).frames 2 = false)
    (hsup : ∀ vm1, s₀.WarmedH vm1 → At (((U.setVm vm1).setFrames (.thenThrow a :: F)).pushFrame (.java (passJ P1.m a (.ref str) 0 []))) P1.m P1.code below → ∃ vm2, s₀.WarmedH vm2 ∧ ∀ t' : State,
      Steps tb e below ((Hf (((U.setVm vm2).setFrames (.thenThrow a :: F)).pushFrame (.java (passJ P1.m a (.ref str) 0 [])))).setTop (passJ P1.m a (.ref str) 5 [])) t' →
      Steps tb e below (doInvoke e ((((U.setVm vm1).setFrames (.thenThrow a :: F)).pushFrame (.java (passJ P1.m a (.ref str) 0 []))).setTop (passJ P1.m a (.ref str) 2 [])) [] P1.sup #[.ref a, .ref str]).1 t') :
    ∃ vm', s₀.WarmedH vm' ∧ ∀ target, Steps tb e below ((Hf (U.setVm vm')).setFrames (.throwing a :: F)) target → Steps tb e below (doInvoke e (U.setFrames (.thenThrow a :: F)) [] P1.m #[.ref a, .ref str]).1 target := by
  have hmW := hW.methodAt L1.method
  have hF' : ∃ mid, (Frame.thenThrow a :: F) = mid ++ below := by obtain ⟨mid, hmid⟩ := hF; exact ⟨.thenThrow a :: mid, by rw [hmid]; rfl⟩
  obtain ⟨hfN, hI, hfI, -⟩ := over_in hU hF' (passJ P1.m a (.ref str) 0 []) hmW L1.code (hW.plainAt L1.plain)
  obtain ⟨vm1, hW1, st1⟩ := Steps.invokeInitCold (tb := tb) (s₀ := s₀) (U := ((U.setFrames (.thenThrow a :: F)).pushFrame (.java (passJ P1.m a (.ref str) 0 [])))) (f := passJ P1.m a (.ref str) 2 [.ref str, .ref a]) (args := [.ref str]) (rest := []) (a := a) hI hexec L1.at2 hW L1.links L1.right L1.notHandle L1.cls L1.file L1.pool
    L1.supClass L1.supMethod L1.supName L1.supStatic L1.supAbstract L1.supFound L1.supParams.symm rfl
  obtain ⟨vm2, hW2, st2⟩ := hsup vm1 hW1 (hI.setVm (hW.alike.symm.trans hW1.alike))
  refine ⟨vm2, hW2, fun target hrest => ?_⟩
  rw [(doInvoke_java (s := (U.setFrames (.thenThrow a :: F))) (e := e) (acts := []) (args := #[.ref a, .ref str]) (meth := P1.meth) (code := P1.code) hmW L1.code L1.locks (by rw [L1.locals]; exact hroom)).1, L1.locals]
  show Steps tb e below ((U.setFrames (.thenThrow a :: F)).pushFrame (.java (passJ P1.m a (.ref str) 0 []))) target
  rw [← State.setTop_self (s := ((U.setFrames (.thenThrow a :: F)).pushFrame (.java (passJ P1.m a (.ref str) 0 [])))) (State.topJava?_of_frames hfI)]
  jvm_step hI [hexec, L1.at0, Value.isRef]
  jvm_step hI [hexec, L1.at1, Value.isRef]
  refine st1 target (st2 target ?_)
  exact over_retS (U := U.setVm vm2) (hU.setVm (hW.alike.symm.trans hW2.alike)) hexec hH hF a str (hW2.methodAt L1.method) L1.code (hW2.plainAt (U := U.setVm vm2) L1.plain) L1.locks L1.at5 hrest
/-- room for the machine's own throw over these frames -/
def OvR (e : Env) (T : State) (F : List Frame) (k : Nat) : Prop := F.length + k < (e.platform.stackLimits T.me).1 ∧ (stackUse F).2 + 10240 ≤ (e.platform.stackLimits T.me).2
section OVS
variable {p : Program} {l : Launch} {e : Env} {R : Room} {s : State} {m : MethodId} {args : Array Value} {below : List Frame} {meth : Method} {c : Code} {T' : State} {locs : List Loc} {cells slots : Nat}
theorem ovr_free (X : Stand p l e R s m args below meth c T' locs cells slots) {F : List Frame} {k : Nat} (hR : OvR e T' F k) (note : Frame) (hnote : ∀ f, note ≠ .java f) (hw : note.words = 0) :
    e.platform.stackBeyond ((((T'.setFrames (note :: F)).threads[T'.cur]?).map (·.stackBytes)).getD 0) (T'.setFrames (note :: F)).frames = false ∧
      e.platform.vmThrowRoom ≤ e.platform.stackFree ((((T'.setFrames (note :: F)).threads[T'.cur]?).map (·.stackBytes)).getD 0) (T'.setFrames (note :: F)).frames := by
  obtain ⟨g₀, hfr⟩ := X.frames_eq
  have hcur : T'.cur < T'.threads.size := State.cur_lt_of_frames hfr
  have hb : ((((T'.setFrames (note :: F)).threads[T'.cur]?).map (·.stackBytes)).getD 0) = T'.me.stackBytes := by
    rw [← State.stackBytes_setFrames T' (note :: F)]
    exact State.stackBytes_me (T'.setFrames (note :: F))
  have hA := hR.2
  have hlimit : (e.platform.stackLimits T'.me).2 = (e.platform.limitsFor T'.me.stackBytes).2 := rfl
  rw [hb, State.frames_setFrames _ hcur, Launch.admits_vmThrowRoom X.admits]
  unfold Platform.stackBeyond Platform.stackFree
  rw [stackUse_light _ _ hnote hw]
  exact ⟨decide_eq_false (by omega), by omega⟩
theorem ovr_java (X : Stand p l e R s m args below meth c T' locs cells slots) {g : JFrame} (hsize : g.locals.size = c.maxLocals) {k : Nat} (hRf : k < R.frames) (hK : 2 * g.monitorRoom + (g.stack.map fun v => v.category).sum + 10240 ≤ R.locals) : OvR e T' (.java g :: below) k := by
  have h1 := X.framesAbove hRf
  obtain ⟨g₀, hfr⟩ := X.frames_eq
  rw [hfr] at h1
  have h2 := X.stackAbove hsize hK
  rw [X.tail] at h2
  exact ⟨by simpa using h1, h2⟩
theorem ovr_native (X : Stand p l e R s m args below meth c T' locs cells slots) {g : JFrame} (hsize : g.locals.size = c.maxLocals) {nf : NFrame} (hnf : nf.words = 0) {k : Nat} (hRf : k + 1 < R.frames) (hK : 2 * g.monitorRoom + (g.stack.map fun v => v.category).sum + 10240 ≤ R.locals) : OvR e T' (.native nf :: .java g :: below) k := by
  have h1 := X.framesAbove hRf
  obtain ⟨g₀, hfr⟩ := X.frames_eq
  rw [hfr] at h1
  have h2 := X.stackAbove hsize hK
  rw [X.tail] at h2
  refine ⟨?_, ?_⟩
  · simp only [List.length_cons] at h1 ⊢
    omega
  · rw [stackUse_light (.native nf) _ (fun f hf => by cases hf) hnf]
    exact h2
set_option maxHeartbeats 4000000 in
theorem npeOver (X : Stand p l e R s m args below meth c T' locs cells slots) (hexec : p.tables.exec = Jvm.exec) (htr : e.platform.stackTraces = false) (h : ∀ a ∈ Bundle.npeArmAtoms 8, a.before args s = true) (hlocs : ∀ x ∈ locs, ∀ cell, s.heap[x.base]? = some cell → cell.vm.isStatics = false)
    {F : List Frame} (hF : ∃ mid, F = mid ++ below) (hOv : OvR e T' F 7) (hRcells : cells + 1 ≤ R.cells) (hRslots : slots + 8 ≤ R.slots) :
    ∃ (U : State) (L : List Loc) (ce : Cell), Stand p l e R s m args below meth c U (locs ++ L) (cells + 1) (slots + 8) ∧ (∀ x ∈ L, x.base = T'.heap.size) ∧ U.heap.size = T'.heap.size + 1 ∧ (∀ q, q < T'.heap.size → U.heap[q]? = T'.heap[q]?) ∧ U.heap[T'.heap.size]? = some ce ∧ s.vm.findClass "java/lang/NullPointerException" = some ce.cls ∧ ce.vm = .none ∧
      ∀ target, Steps p.tables e below (U.setFrames (.throwing T'.heap.size :: F)) target → Steps p.tables e below (T'.setFrames (.throwNew "java/lang/NullPointerException" none none :: F)) target := by
  have howns : e.platform.frameOwnsMonitors = true := by rw [X.admits.platform]
  have hfin : e.platform.finalization = false := by rw [X.admits.platform]
  have hpl : e.platform.magicAccessors = ({} : Platform).magicAccessors := by rw [X.admits.platform]
  have hpl2 : e.platform.arrayCloneIsPublic = true := by rw [X.admits.platform]
  have a : ∀ x, x ∈ Bundle.npeArmAtoms 8 → x.holds args s none s [] = true := fun x hx => h x hx
  obtain ⟨T, Z, L, LZ, Y⟩ := ThrowableC.of_atoms (args := args) howns hfin hpl (fun x hx => h x (by simp [Bundle.npeArmAtoms, hx]))
  obtain ⟨N, LN, hcN, hnNF, hordN, hffS⟩ := NpeC.of_atoms (args := args) hpl hpl2 L Y (fun x hx => h x (by simp [Bundle.npeArmAtoms, hx]))
  obtain ⟨P1, L1, hP1m, hP1s⟩ := PassC.of_atoms (args := args) (s := s) hpl (X := Bundle.nN) (Y := Bundle.rN) (by decide) (by decide) LibCode.NullPointerException.Init0.at_0 LibCode.NullPointerException.Init0.at_1 LibCode.NullPointerException.Init0.at_4 (fun x hx => h x (by simp [Bundle.npeArmAtoms, hx]))
  obtain ⟨PR, LR, hPRm, hPRs⟩ := PassC.of_atoms (args := args) (s := s) hpl (X := Bundle.rN) (Y := Bundle.eN) (by decide) (by decide) LibCode.RuntimeException.Init0.at_0 LibCode.RuntimeException.Init0.at_1 LibCode.RuntimeException.Init0.at_4 (fun x hx => h x (by simp [Bundle.npeArmAtoms, hx]))
  obtain ⟨PE, LEx, hPEm, hPEs⟩ := PassC.of_atoms (args := args) (s := s) hpl (X := Bundle.eN) (Y := Bundle.tN) (by decide) (by decide) LibCode.Exception.Init0.at_0 LibCode.Exception.Init0.at_1 LibCode.Exception.Init0.at_4 (fun x hx => h x (by simp [Bundle.npeArmAtoms, hx]))
  have hfound : s.vm.findClass Bundle.nN = some P1.m.cls := findClass_of_methodNamed hP1m
  have ecls : N.cN = P1.m.cls := Option.some.inj (hcN.symm.trans hfound)
  have hk : s.vm.classes[P1.m.cls]? = some N.kN := by rw [← ecls]; exact LN.cls
  have hinit := Cond.initialized_spec hfound hk (a (.initialized Bundle.nN) (by simp [Bundle.npeArmAtoms]))
  have hctor : N.kN.findMethod "<init>" "()V" = some P1.m.idx := findMethod_of_methodNamed hP1m hk
  obtain ⟨c1, k1, hc1, hk1, -, -, -, hn⟩ := Cond.instantiable_spec (a (.instantiable Bundle.nN 8) (by simp [Bundle.npeArmAtoms]))
  cases Option.some.inj (hc1.symm.trans hfound)
  cases Option.some.inj (hk1.symm.trans hk)
  have hlink1 : P1.sup = PR.m := Option.some.inj (hP1s.symm.trans hPRm)
  have hlinkR : PR.sup = PE.m := Option.some.inj (hPRs.symm.trans hPEm)
  have hlinkE : PE.sup = Z.m T.toThrowableT := Option.some.inj (hPEs.symm.trans Y.init0)
  have hsel0 : selectMethod e.platform s.vm P1.m.cls T.fill0 = .method T.fill0 := by
    obtain ⟨c2, r2, m2, q1, q2, q3, q4, -⟩ := Cond.selects_spec (a (.selects Bundle.nN Bundle.tFill0 Bundle.tFill0) (by simp [Bundle.npeArmAtoms]))
    cases Option.some.inj (q1.symm.trans hfound)
    cases Option.some.inj (q2.symm.trans (State.methodFound?_of_named Y.fill0 (by decide)))
    cases Option.some.inj (q3.symm.trans Y.fill0)
    rw [Launch.admits_selectMethod X.admits]; exact q4
  have hselF : selectMethod e.platform s.vm P1.m.cls T.fill = .method N.fill := by
    obtain ⟨c2, r2, m2, q1, q2, q3, q4, -⟩ := Cond.selects_spec (a (.selects Bundle.nN Bundle.tFill Bundle.nFill) (by simp [Bundle.npeArmAtoms]))
    cases Option.some.inj (q1.symm.trans hfound)
    cases Option.some.inj (q2.symm.trans (State.methodFound?_of_named Y.fill (by decide)))
    cases Option.some.inj (q3.symm.trans hnNF)
    rw [Launch.admits_selectMethod X.admits]; exact q4
  obtain ⟨cellS0, hcS0, hiss⟩ := Y.statics
  obtain ⟨u0, hu0⟩ := Cond.staticRefV Y.unassigned L.unassignedStatic L.statics hcS0 hiss (a (.isRef (.static Bundle.tN "UNASSIGNED_STACK" Bundle.steD)) (by simp [Bundle.npeArmAtoms]))
  obtain ⟨sen, hsen⟩ := Cond.staticRefV Y.sentinel L.sentinelStatic L.statics hcS0 hiss (a (.isRef (.static Bundle.tN "SUPPRESSED_SENTINEL" Bundle.listD)) (by simp [Bundle.npeArmAtoms]))
  obtain ⟨ci198, i198, fB, hk198, hg198, ha198, hsB, -, hnB, htB, hffB⟩ := Cond.ownField (t := .object "java/lang/Object") Y.found L.cls (by decide +kernel) (a (.fieldLink Bundle.tN 198 Bundle.tN "backtrace" Bundle.objD) (by simp [Bundle.npeArmAtoms])) (a (.lays Bundle.tN Bundle.tN "backtrace" Bundle.objD) (by simp [Bundle.npeArmAtoms])) e.platform hpl
  obtain ⟨cellS, hcS', heS, -, hkeep⟩ := X.same.2.2.2.2.2 T.aS cellS0 hcS0
  have hcellS : T'.heap[T.aS]? = some cellS := hcS'
  have hout' : ∀ i, (⟨T.aS, i⟩ : Loc) ∉ locs := fun i hmem => by
    have := hlocs _ hmem cellS0 hcS0
    rw [hiss] at this; cases this
  have hknownS : cellS.vm ≠ .unknown := by
    rw [heS]; intro hu
    rw [show cellS0.vm = .unknown from hu] at hiss
    cases hiss
  obtain ⟨tyC, dC, hdC, hdnC⟩ := Cond.laysAt hfound hk Y.cause (a (.lays Bundle.nN Bundle.tN "cause" "Ljava/lang/Throwable;") (by simp [Bundle.npeArmAtoms]))
  obtain ⟨tyS, dS, hdS, hdnS⟩ := Cond.laysAt hfound hk Y.stack (a (.lays Bundle.nN Bundle.tN "stackTrace" Bundle.steD) (by simp [Bundle.npeArmAtoms]))
  obtain ⟨tyP, dP, hdP, hdnP⟩ := Cond.laysAt hfound hk Y.supp (a (.lays Bundle.nN Bundle.tN "suppressedExceptions" Bundle.listD) (by simp [Bundle.npeArmAtoms]))
  obtain ⟨tyX, dX, hdX, hdnX⟩ := Cond.laysAt hfound hk hffS (a (.lays Bundle.nN Bundle.nN "extendedMessageState" "I") (by simp [Bundle.npeArmAtoms, Bundle.npeAtoms]))
  have hnX : N.fState.name = "extendedMessageState" := (State.fieldFound?_type hffS (t := .int) (by decide +kernel)).1
  obtain ⟨tyB, dB, hdB, hdnB⟩ := Cond.laysAt hfound hk hffB (a (.lays Bundle.nN Bundle.tN "backtrace" Bundle.objD) (by simp [Bundle.npeArmAtoms]))
  have bC := Cond.laysApart hdB hdC hdnB hdnC (by rw [hnB, Y.causeName]; decide)
  have bS := Cond.laysApart hdB hdS hdnB hdnS (by rw [hnB, Y.stackName]; decide)
  have bP := Cond.laysApart hdB hdP hdnB hdnP (by rw [hnB, Y.suppName]; decide)
  have bX := Cond.laysApart hdB hdX hdnB hdnX (by rw [hnB, hnX]; decide)
  have hskip : SkipFacts T e.platform s (fun u => u) u0 ((npeCell N.toNpeT (preparedCellV T.toThrowableT (freshCell P1.m.cls N.kN) T'.heap.size u0 sen) T'.cur).withEntry T'.cur) :=
    ⟨{ ci198 := ci198, i198 := i198, fBack := fB }, ⟨hk198, hg198, ha198, hsB⟩, by
      have := fresh_default (c := P1.m.cls) tyB
      rw [htB] at this
      simpa [npeCell, preparedCellV, Cell.setSlot, Cell.withEntry, Array.getElem?_setIfInBounds, bC, bS, bP, bX, bC.symm, bS.symm, bP.symm, bX.symm, defaultValue] using this, fun _ _ => rfl⟩
  have hL : ∀ P, P ∈ [PR, PE] → P.Links0 e.platform s := fun P hP => by
    simp only [List.mem_cons, List.not_mem_nil, or_false] at hP
    rcases hP with rfl | rfl
    · exact LR
    · exact LEx
  have hWW := X.warmed
  have hlim : e.platform.stackLimits T'.me = e.platform.stackLimits T'.me := rfl
  have hltS : T.aS < T'.heap.size := (Array.getElem?_eq_some_iff.mp hcellS).1
  have hWat : At (T'.pushCell (freshCell P1.m.cls N.kN)) m c below := (At.pushCell_iff _).mpr X.here
  have w5 : (T'.pushCell (freshCell P1.m.cls N.kN)).heap[T.aS]? = some cellS := by
    rw [← hcellS]
    simp [State.pushCell, Array.getElem?_push, Nat.ne_of_lt hltS]
  have hF' : ∃ mid, (Frame.thenThrow T'.heap.size :: F) = mid ++ below := by obtain ⟨mid, hmid⟩ := hF; exact ⟨.thenThrow T'.heap.size :: mid, by rw [hmid]; rfl⟩
  obtain ⟨hfN, -, -, hcurW⟩ := over_in hWat hF' (pass0J P1.m T'.heap.size 0 []) (hWW.methodAt L1.method) L1.code (hWW.plainAt (U := T'.pushCell (freshCell P1.m.cls N.kN)) L1.plain)
  have hlimN : e.platform.stackLimits ((T'.pushCell (freshCell P1.m.cls N.kN)).setFrames (.thenThrow T'.heap.size :: F)).me = e.platform.stackLimits T'.me := by rw [State.stackLimits_setFrames]; rfl
  have hroom := roomAbove (pl := e.platform) (u := (T'.pushCell (freshCell P1.m.cls N.kN)).setFrames (.thenThrow T'.heap.size :: F)) (vars := 1) (pushed := [.thenThrow T'.heap.size]) (base := F) (free := 10240) (lim := e.platform.stackLimits T'.me) hfN hlimN
    (by have := hOv.1; simp only [List.length_cons, List.length_nil]; omega) hOv.2 (by rw [stackUse_light _ _ (fun f hf => by cases hf) rfl, stackUse_nil]; show 0 + 1 + 11 ≤ _; omega)
  obtain ⟨vm', hW', st⟩ := over_ctorN (tb := p.tables) (s₀ := s) hWat hexec (Hf := fun u => u.setCell T'.heap.size ((((npeCell N.toNpeT (preparedCellV T.toThrowableT (freshCell P1.m.cls N.kN) T'.heap.size u0 sen) T'.cur).withEntry T'.cur).setSlot T.fStack.slot u0.v).left.left)) (heapOnly_id.thenSetCell T'.heap.size _) hF P1 L1 hWW T'.heap.size hroom (fun vm1 hW1 hI1 => by
    rw [hlink1]
    obtain ⟨-, -, hfI, -⟩ := over_in (hWat.setVm (hWW.alike.symm.trans hW1.alike)) hF' (pass0J P1.m T'.heap.size 0 []) (hW1.methodAt L1.method) L1.code (hW1.plainAt (U := (T'.pushCell (freshCell P1.m.cls N.kN)).setVm vm1) L1.plain)
    have hXvm : ∀ w, ((((T'.pushCell (freshCell P1.m.cls N.kN)).setVm vm1).setFrames (.thenThrow T'.heap.size :: F)).pushFrame (.java (pass0J P1.m T'.heap.size 0 []))).setVm w = ((((T'.pushCell (freshCell P1.m.cls N.kN)).setVm w).setFrames (.thenThrow T'.heap.size :: F)).pushFrame (.java (pass0J P1.m T'.heap.size 0 []))) := fun w => by rw [State.pushFrame_setVm, State.setFrames_setVm, State.setVm_twice]
    obtain ⟨vm2, hW2, st2⟩ := Steps.initNpe0ColdByV p (V := ((((T'.pushCell (freshCell P1.m.cls N.kN)).setVm vm1).setFrames (.thenThrow T'.heap.size :: F)).pushFrame (.java (pass0J P1.m T'.heap.size 0 [])))) (g := pass0J P1.m T'.heap.size 1 []) (c := P1.code) (self := T'.heap.size) hI1 hexec T L Z LZ N LN hW1 (t := T'.cur) rfl (Nn := fun u => u) heapOnly_id (fun _ _ => rfl) (fun _ => rfl) (fun u x y => setCell_twice _ _ _ _) (fun _ => Nat.le_refl _) (u0 := u0) (sen := sen) (cN := ((npeCell N.toNpeT (preparedCellV T.toThrowableT (freshCell P1.m.cls N.kN) T'.heap.size u0 sen) T'.cur).withEntry T'.cur)) (State.heap_pushCell_size T' (freshCell P1.m.cls N.kN)) (by intro k hk'; cases hk') (by intro hk'; cases hk') rfl hk hsel0 w5 (Nat.ne_of_lt hltS) hknownS (by rw [hkeep _ (hout' _)]; exact hu0)
      (by rw [fresh_default tyX, LN.stateInt]; rfl)
      (Cond.laysApart hdC hdX hdnC hdnX (by rw [Y.causeName, hnX]; decide)) (Cond.laysApart hdS hdX hdnS hdnX (by rw [Y.stackName, hnX]; decide)) (Cond.laysApart hdP hdX hdnP hdnX (by rw [Y.suppName, hnX]; decide))
      (Takes.of_laid hk hordN tyS (by rw [Y.stackType]; exact fits_refV_array _ u0)) (Takes.of_laid hk hordN tyX (by rw [LN.stateInt]; rfl)) (fun _ hu => hu) (fun _ hu => hu) rfl rfl rfl (by simp [npeCell, preparedCellV, Cell.setSlot, Cell.withEntry]) hskip (fun _ _ hA hW _ hroom _ hrest => L.nativeOff p htr hA hW hroom hrest) hselF (by rw [hkeep _ (hout' _)]; exact hsen)
      (Takes.of_laid hk hordN tyC (by rw [Y.causeType]; rfl)) (Takes.of_laid hk hordN tyP (by rw [Y.suppType]; exact fits_refV_object _ sen)) Y.objLocals [PR, PE] hL ⟨hlinkR, hlinkE, trivial⟩ (ig := .invokespecial P1.index) (len := 3) [] (lim := e.platform.stackLimits T'.me) (by rw [State.stackLimits_pushFrame, State.stackLimits_setFrames]; rfl)
      (by rw [hfI]; have := hOv.1; simp only [List.length_cons, List.length_nil]; omega)
      (by rw [hfI, List.tail_cons, stackUse_java, stackUse_light _ _ (fun f hf => by cases hf) rfl]
          show (stackUse F).2 + (1 + 11 + 2 * 0 + operandWords []) + 13 * 2 + 55 ≤ _
          simp only [operandWords, List.foldl_nil]
          have := hOv.2
          omega)
      L1.at1
    exact ⟨vm2, hW2, fun t' h' => st2 t' (by rw [hXvm]; exact h')⟩)
  have st : ∀ target, Steps p.tables e below ((((T'.pushCell (freshCell P1.m.cls N.kN)).setVm vm').setCell T'.heap.size ((((npeCell N.toNpeT (preparedCellV T.toThrowableT (freshCell P1.m.cls N.kN) T'.heap.size u0 sen) T'.cur).withEntry T'.cur).setSlot T.fStack.slot u0.v).left.left)).setFrames (.throwing T'.heap.size :: F)) target → _ := st
  rw [npeBareV_eq T.toThrowableT N.toNpeT T'.heap.size u0 sen T'.cur rfl rfl] at st
  have X2 := (X.pushed (freshCell P1.m.cls N.kN)).noted hW'
  have hsz : ((T'.pushCell (freshCell P1.m.cls N.kN)).setVm vm').heap.size = T'.heap.size + 1 := State.heap_size_pushCell _ _
  have ha : T'.heap.size < ((T'.pushCell (freshCell P1.m.cls N.kN)).setVm vm').heap.size := by rw [hsz]; omega
  have hcell : ((T'.pushCell (freshCell P1.m.cls N.kN)).setVm vm').heap[T'.heap.size]? = some (freshCell P1.m.cls N.kN) := State.heap_pushCell_size T' (freshCell P1.m.cls N.kN)
  have X3 := ((((X2.stored hcell T.fCause.slot (.ref T'.heap.size)).storedAgain ha T.fStack.slot u0.v).storedAgain ha T.fSupp.slot sen.v).storedAgain ha N.fState.slot (.int 1)).storedAgain ha T.fStack.slot u0.v
  simp only [List.append_assoc, List.cons_append, List.nil_append] at X3
  have hsl : (freshCell P1.m.cls N.kN).slots.size = 8 := by simp [hn]
  rw [hsl] at X3
  refine ⟨_, _, _, X3, ?_, ?_, ?_, heapAt_setCell_self _ ha, hfound, rfl, fun target hrest => ?_⟩
  · intro x hx
    simp only [List.mem_cons, List.not_mem_nil, or_false] at hx
    rcases hx with rfl | rfl | rfl | rfl | rfl <;> rfl
  · rw [size_setCell]; exact hsz
  · intro q hq
    rw [heapAt_setCell_ne _ (Nat.ne_of_gt hq)]
    show (T'.pushCell (freshCell P1.m.cls N.kN)).heap[q]? = _
    simp [State.pushCell, Array.getElem?_push, Nat.ne_of_lt hq]
  · have hf0 : (T'.setFrames (.throwNew "java/lang/NullPointerException" none none :: F)).frames = .throwNew "java/lang/NullPointerException" none none :: F := State.frames_setFrames _ hcurW
    obtain ⟨mid, hmid⟩ := hF
    obtain ⟨hbeyond, hfreeW⟩ := ovr_free X hOv (.throwNew "java/lang/NullPointerException" none none) (fun f hf => by cases hf) rfl
    obtain ⟨kX', hk', he'⟩ := hWW.alike.2.2 _ _ hk
    have hty : kX'.instanceTypes = N.kN.instanceTypes := by rw [he']
    have hfresh : freshCell P1.m.cls kX' = freshCell P1.m.cls N.kN := by
      show ({ cls := P1.m.cls, slots := kX'.instanceTypes.map defaultValue, vm := .none } : Cell) = _
      rw [hty]
    refine Steps.head ⟨X.here.running, by simpa using X.here.runnable, by simpa using X.here.alone⟩ ⟨.throwNew "java/lang/NullPointerException" none none :: mid, by rw [hf0, hmid]; rfl, by simp, by simp⟩ ?_
    rw [stepThread_throwNew hf0, stepThrowNew_plain (s := T'.setFrames (.throwNew "java/lang/NullPointerException" none none :: F)) (c := P1.m.cls) (k := kX') (i := P1.m.idx) (by decide) (by decide) (by show T'.vm.findClass _ = _; rw [hWW.alike.findClass]; exact hfound) hk' (by rw [he']; exact hinit) (by rw [he']; exact hordN) (Launch.admits_hotImplicitExceptions X.admits) hbeyond hfreeW (by rw [he']; exact hctor) (X.cellsAbove hRcells) (by rw [hty, hn]; exact X.slotsAbove hRslots)]
    rw [hfresh, State.pushCell_setFrames, State.setFrames_setFrames]
    exact st target hrest
end OVS
