/-! OVERS: an exception with a text is made over any frames (by program: gen/mkover2.py) -/
set_option maxRecDepth 100000
section OVM
variable {p : Program} {l : Launch} {e : Env} {R : Room} {s : State} {m : MethodId} {args : Array Value} {below : List Frame} {meth : Method} {c : Code} {T' : State} {locs : List Loc} {cells slots : Nat}
set_option maxHeartbeats 4000000 in
theorem msgOver (X : Stand p l e R s m args below meth c T' locs cells slots) (hexec : p.tables.exec = Jvm.exec) (htr : e.platform.stackTraces = false) {cls : String} {names : List String} {text : String} {B : Nat} (hcls : Bundle.fit cls = true) (hnames : ∀ n ∈ names, Bundle.fit n = true) (hsoe : (cls == "java/lang/StackOverflowError") = false) (hoom : (cls == "java/lang/OutOfMemoryError") = false)
    (h : ∀ a ∈ Bundle.messageArmAtoms cls names, a.before args s = true) (hlocs : ∀ x ∈ locs, ∀ cell, s.heap[x.base]? = some cell → cell.vm.isStatics = false)
    (htext : (text == notModelled) = false) (hB : B ≤ 100000) (hb : (stringBytes (stringToUtf16 text)).size + 10 ≤ B)
    {F : List Frame} (hF : ∃ mid, F = mid ++ below) (hOv : OvR e T' F (names.length + 4)) (hshort : 13 * names.length + 55 ≤ 10240) (hRcells : cells + 3 ≤ R.cells) (hRslots : slots + B ≤ R.slots) :
    ∃ (U : State) (L : List Loc) (ce : Cell) (k : Nat), Stand p l e R s m args below meth c U (locs ++ L) (cells + 3) (slots + k) ∧ k ≤ B ∧ (∀ x ∈ L, x.base = T'.heap.size + 2) ∧ U.heap.size = T'.heap.size + 3 ∧ (∀ q, q < T'.heap.size → U.heap[q]? = T'.heap[q]?) ∧ U.heap[T'.heap.size + 2]? = some ce ∧ s.vm.findClass cls = some ce.cls ∧ ce.vm = .none ∧
      ∀ target, Steps p.tables e below (U.setFrames (.throwing (T'.heap.size + 2) :: F)) target → Steps p.tables e below (T'.setFrames (.throwNew cls (some text) none :: F)) target := by
  have howns : e.platform.frameOwnsMonitors = true := by rw [X.admits.platform]
  have hfin : e.platform.finalization = false := by rw [X.admits.platform]
  have hpl : e.platform.magicAccessors = ({} : Platform).magicAccessors := by rw [X.admits.platform]
  have hlimit : ¬ (stringBytes (stringToUtf16 text)).size > e.platform.arrayLengthLimit := by rw [Launch.admits_arrayLengthLimit X.admits]; omega
  have hheap : ¬ (stringBytes (stringToUtf16 text)).size * componentBytes .byte > e.platform.maxHeapBytes := by rw [Launch.admits_maxHeapBytes X.admits]; simp only [componentBytes]; omega
  have a : ∀ x, x ∈ Bundle.messageArmAtoms cls names → x.holds args s none s [] = true := fun x hx => h x hx
  obtain ⟨T, Z0, L, -, Y⟩ := ThrowableC.of_atoms (args := args) howns hfin hpl (fun x hx => h x (by simp [Bundle.messageArmAtoms, hx]))
  obtain ⟨Z, M, LZ, LM, hnZ⟩ := Init0T.ofS_atoms (args := args) hpl L Y (fun x hx => h x (by simp [Bundle.messageArmAtoms, hx]))
  obtain ⟨P1, Ps, hlen, L1, hL, hP1m, hlink1, hlink⟩ := Bundle.chainS (args := args) hpl hnZ names cls hcls hnames (fun x hx => h x (by simp [Bundle.messageArmAtoms, hx]))
  obtain ⟨Zs, LZs, hn4, hfitv, hfitc⟩ := StringT.of_atoms (args := args) (fun x hx => h x (by simp [Bundle.messageArmAtoms, hx]))
  have hfound : s.vm.findClass cls = some P1.m.cls := findClass_of_methodNamed hP1m
  obtain ⟨c1, kX, hc1, hk, hord, -, -, hn6⟩ := Cond.instantiable_spec (a (.instantiable cls 6) (by simp [Bundle.messageArmAtoms]))
  cases Option.some.inj (hc1.symm.trans hfound)
  have hinit := Cond.initialized_spec hfound hk (a (.initialized cls) (by simp [Bundle.messageArmAtoms]))
  have hctor : kX.findMethod "<init>" "(Ljava/lang/String;)V" = some P1.m.idx := findMethod_of_methodNamed hP1m hk
  have hsel0 : selectMethod e.platform s.vm P1.m.cls T.fill0 = .method T.fill0 := by
    obtain ⟨c2, r2, m2, q1, q2, q3, q4, -⟩ := Cond.selects_spec (a (.selects cls Bundle.tFill0 Bundle.tFill0) (by simp [Bundle.messageArmAtoms]))
    cases Option.some.inj (q1.symm.trans hfound)
    cases Option.some.inj (q2.symm.trans (State.methodFound?_of_named Y.fill0 (by decide)))
    cases Option.some.inj (q3.symm.trans Y.fill0)
    rw [Launch.admits_selectMethod X.admits]; exact q4
  have hselF : selectMethod e.platform s.vm P1.m.cls T.fill = .method T.fill := by
    obtain ⟨c2, r2, m2, q1, q2, q3, q4, -⟩ := Cond.selects_spec (a (.selects cls Bundle.tFill Bundle.tFill) (by simp [Bundle.messageArmAtoms]))
    cases Option.some.inj (q1.symm.trans hfound)
    cases Option.some.inj (q2.symm.trans (State.methodFound?_of_named Y.fill (by decide)))
    cases Option.some.inj (q3.symm.trans Y.fill)
    rw [Launch.admits_selectMethod X.admits]; exact q4
  obtain ⟨cellS0, hcS0, hiss⟩ := Y.statics
  obtain ⟨u0, hu0⟩ := Cond.staticRefV Y.unassigned L.unassignedStatic L.statics hcS0 hiss (a (.isRef (.static Bundle.tN "UNASSIGNED_STACK" Bundle.steD)) (by simp [Bundle.messageArmAtoms]))
  obtain ⟨sen, hsen⟩ := Cond.staticRefV Y.sentinel L.sentinelStatic L.statics hcS0 hiss (a (.isRef (.static Bundle.tN "SUPPRESSED_SENTINEL" Bundle.listD)) (by simp [Bundle.messageArmAtoms]))
  obtain ⟨ci198, i198, fB, hk198, hg198, ha198, hsB, -, hnB, htB, hffB⟩ := Cond.ownField (t := .object "java/lang/Object") Y.found L.cls (by decide +kernel) (a (.fieldLink Bundle.tN 198 Bundle.tN "backtrace" "Ljava/lang/Object;") (by simp [Bundle.messageArmAtoms])) (a (.lays Bundle.tN Bundle.tN "backtrace" "Ljava/lang/Object;") (by simp [Bundle.messageArmAtoms])) e.platform hpl
  obtain ⟨cellS, hcS', heS, -, hkeep⟩ := X.same.2.2.2.2.2 T.aS cellS0 hcS0
  have hcellS : T'.heap[T.aS]? = some cellS := hcS'
  have hout' : ∀ i, (⟨T.aS, i⟩ : Loc) ∉ locs := fun i hmem => by
    have := hlocs _ hmem cellS0 hcS0
    rw [hiss] at this; cases this
  have hknownS : cellS.vm ≠ .unknown := by
    rw [heS]; intro hu
    rw [show cellS0.vm = .unknown from hu] at hiss
    cases hiss
  obtain ⟨iM, hffM⟩ := Y.msg
  obtain ⟨tyC, dC, hdC, hdnC⟩ := Cond.laysAt hfound hk Y.cause (a (.lays cls Bundle.tN "cause" "Ljava/lang/Throwable;") (by simp [Bundle.messageArmAtoms]))
  obtain ⟨tyS, dS, hdS, hdnS⟩ := Cond.laysAt hfound hk Y.stack (a (.lays cls Bundle.tN "stackTrace" Bundle.steD) (by simp [Bundle.messageArmAtoms]))
  obtain ⟨tyP, dP, hdP, hdnP⟩ := Cond.laysAt hfound hk Y.supp (a (.lays cls Bundle.tN "suppressedExceptions" Bundle.listD) (by simp [Bundle.messageArmAtoms]))
  obtain ⟨tyM, dM, hdM, hdnM⟩ := Cond.laysAt hfound hk hffM (a (.lays cls Bundle.tN "detailMessage" "Ljava/lang/String;") (by simp [Bundle.messageArmAtoms]))
  obtain ⟨tyB, dB, hdB, hdnB⟩ := Cond.laysAt hfound hk hffB (a (.lays cls Bundle.tN "backtrace" "Ljava/lang/Object;") (by simp [Bundle.messageArmAtoms]))
  have bC := Cond.laysApart hdB hdC hdnB hdnC (by rw [hnB, Y.causeName]; decide)
  have bS := Cond.laysApart hdB hdS hdnB hdnS (by rw [hnB, Y.stackName]; decide)
  have bP := Cond.laysApart hdB hdP hdnB hdnP (by rw [hnB, Y.suppName]; decide)
  have hskip : SkipFacts T e.platform s (fun u => u) u0 ((preparedCellV T.toThrowableT (freshCell P1.m.cls kX) (T'.heap.size + 2) u0 sen).withEntry T'.cur) :=
    ⟨{ ci198 := ci198, i198 := i198, fBack := fB }, ⟨hk198, hg198, ha198, hsB⟩, by
      have := fresh_default (c := P1.m.cls) tyB
      rw [htB] at this
      simpa [preparedCellV, Cell.setSlot, Cell.withEntry, Array.getElem?_setIfInBounds, bC, bS, bP, bC.symm, bS.symm, bP.symm, defaultValue] using this, fun _ _ => rfl⟩
  have hWW := X.warmed
  have hltS : T.aS < T'.heap.size := (Array.getElem?_eq_some_iff.mp hcellS).1
  obtain ⟨w1, w2, w3, w4, w5, -, w7⟩ := withThrown_facts e.platform T' Zs text P1.m.cls kX
  have hWat : At (withThrown T' Zs text P1.m.cls kX) m c below := by simpa [withThrown, withString] using X.here
  have hWcur : (withThrown T' Zs text P1.m.cls kX).cur = T'.cur := by simp [withThrown, withString]
  have hWU : s.WarmedH (withThrown T' Zs text P1.m.cls kX).vm := by rw [w1]; exact hWW
  have hF' : ∃ mid, (Frame.thenThrow (T'.heap.size + 2) :: F) = mid ++ below := by obtain ⟨mid, hmid⟩ := hF; exact ⟨.thenThrow (T'.heap.size + 2) :: mid, by rw [hmid]; rfl⟩
  have hout9 : ((withThrown T' Zs text P1.m.cls kX).heap[T.aS]?) = some cellS := (w5 _ hltS).trans hcellS
  generalize hWt : withThrown T' Zs text P1.m.cls kX = W0 at hWat hWcur hWU w1 w2 w3 w4 w5 w7 hout9
  obtain ⟨hfN, -, -, hcurW⟩ := over_in hWat hF' (passJ P1.m (T'.heap.size + 2) (.ref (T'.heap.size + 1)) 0 []) (hWU.methodAt L1.method) L1.code (hWU.plainAt (U := W0) L1.plain)
  have hlimN : e.platform.stackLimits (W0.setFrames (.thenThrow (T'.heap.size + 2) :: F)).me = e.platform.stackLimits T'.me := by rw [State.stackLimits_setFrames]; exact w7
  have hroom := roomAbove (pl := e.platform) (u := W0.setFrames (.thenThrow (T'.heap.size + 2) :: F)) (vars := 2) (pushed := [.thenThrow (T'.heap.size + 2)]) (base := F) (free := 10240) (lim := e.platform.stackLimits T'.me) hfN hlimN
    (by have := hOv.1; simp only [List.length_cons, List.length_nil]; omega) hOv.2 (by rw [stackUse_light _ _ (fun f hf => by cases hf) rfl, stackUse_nil]; show 0 + 2 + 11 ≤ _; omega)
  obtain ⟨vm', hW', st⟩ := over_ctorS (tb := p.tables) (s₀ := s) hWat hexec (Hf := fun u => u.setCell (T'.heap.size + 2) (((((preparedCellV T.toThrowableT (freshCell P1.m.cls kX) (T'.heap.size + 2) u0 sen).withEntry T'.cur).setSlot T.fStack.slot u0.v).left).setSlot T.fMsg.slot (.ref (T'.heap.size + 1)))) (heapOnly_id.thenSetCell (T'.heap.size + 2) _) hF P1 L1 hWU (T'.heap.size + 2) (T'.heap.size + 1) hroom (fun vm1 hW1 hI1 => by
    rw [hlink1]
    obtain ⟨-, -, hfI, -⟩ := over_in (hWat.setVm (hWU.alike.symm.trans hW1.alike)) hF' (passJ P1.m (T'.heap.size + 2) (.ref (T'.heap.size + 1)) 0 []) (hW1.methodAt L1.method) L1.code (hW1.plainAt (U := W0.setVm vm1) L1.plain)
    have hXvm : ∀ w, (((W0.setVm vm1).setFrames (.thenThrow (T'.heap.size + 2) :: F)).pushFrame (.java (passJ P1.m (T'.heap.size + 2) (.ref (T'.heap.size + 1)) 0 []))).setVm w = (((W0.setVm w).setFrames (.thenThrow (T'.heap.size + 2) :: F)).pushFrame (.java (passJ P1.m (T'.heap.size + 2) (.ref (T'.heap.size + 1)) 0 []))) := fun w => by rw [State.pushFrame_setVm, State.setFrames_setVm, State.setVm_twice]
    obtain ⟨vm2, hW2, st2⟩ := Steps.initThrowableSColdByV p (V := (((W0.setVm vm1).setFrames (.thenThrow (T'.heap.size + 2) :: F)).pushFrame (.java (passJ P1.m (T'.heap.size + 2) (.ref (T'.heap.size + 1)) 0 [])))) (g := passJ P1.m (T'.heap.size + 2) (.ref (T'.heap.size + 1)) 2 []) (c := P1.code) (self := T'.heap.size + 2) hI1 hexec T L Z LZ M LM hW1 (t := T'.cur) hWcur (Nn := fun u => u) heapOnly_id (fun _ _ => rfl) (fun _ => rfl) (fun u x y => setCell_twice _ _ _ _) (fun _ => Nat.le_refl _) (u0 := u0) (sen := sen) (cN := ((preparedCellV T.toThrowableT (freshCell P1.m.cls kX) (T'.heap.size + 2) u0 sen).withEntry T'.cur)) (msg := .ref (T'.heap.size + 1)) rfl w4 (by intro k hk'; cases hk') (by intro hk'; cases hk') rfl hsel0 hout9 (Nat.ne_of_lt (Nat.lt_of_lt_of_le hltS (Nat.le_add_right _ 2))) hknownS (by rw [hkeep _ (hout' _)]; exact hu0)
      (Takes.of_laid hk hord tyS (by rw [Y.stackType]; exact fits_refV_array _ u0)) (fun _ hu => hu) (fun _ hu => hu) rfl rfl rfl (by simp [preparedCellV, Cell.setSlot, Cell.withEntry]) hskip (fun _ _ hA hW _ hroom _ hrest => L.nativeOff p htr hA hW hroom hrest) hselF (by rw [hkeep _ (hout' _)]; exact hsen)
      (Takes.of_laid hk hord tyC (by rw [Y.causeType]; rfl)) (Takes.of_laid hk hord tyP (by rw [Y.suppType]; exact fits_refV_object _ sen)) (Takes.of_laid hk hord tyM (by rw [Y.msgType]; rfl)) Y.objLocals Ps hL hlink (ig := .invokespecial P1.index) (len := 3) [] (lim := e.platform.stackLimits T'.me) (by rw [State.stackLimits_pushFrame, State.stackLimits_setFrames]; exact w7)
      (by rw [hfI, hlen]; have := hOv.1; simp only [List.length_cons, List.length_nil]; omega)
      (by rw [hfI, List.tail_cons, stackUse_java, stackUse_light _ _ (fun f hf => by cases hf) rfl, hlen]
          show (stackUse F).2 + (2 + 11 + 2 * 0 + operandWords []) + 13 * names.length + 42 ≤ _
          simp only [operandWords, List.foldl_nil]
          have := hOv.2
          omega)
      L1.at2
    exact ⟨vm2, hW2, fun t' h' => st2 t' (by rw [hXvm]; exact h')⟩)
  have st : ∀ target, Steps p.tables e below (((W0.setVm vm').setCell (T'.heap.size + 2) (((((preparedCellV T.toThrowableT (freshCell P1.m.cls kX) (T'.heap.size + 2) u0 sen).withEntry T'.cur).setSlot T.fStack.slot u0.v).left).setSlot T.fMsg.slot (.ref (T'.heap.size + 1)))).setFrames (.throwing (T'.heap.size + 2) :: F)) target → _ := st
  rw [plainBareV_eq T.toThrowableT (T'.heap.size + 2) u0 sen (.ref (T'.heap.size + 1)) T'.cur rfl rfl] at st
  subst hWt
  have X3 := ((X.pushed (bytesOf Zs.cB (stringToUtf16 text))).pushed (stringAt Zs.cS Zs.kS Zs.fv Zs.fc (stringToUtf16 text) T'.heap.size)).pushed (freshCell P1.m.cls kX)
  rw [← withString_eq] at X3
  have X4 := X3.noted hW'
  have ha : (T'.heap.size + 2) < ((withThrown T' Zs text P1.m.cls kX).setVm vm').heap.size := by show _ < (withThrown T' Zs text P1.m.cls kX).heap.size; rw [w3]; omega
  have hcell : ((withThrown T' Zs text P1.m.cls kX).setVm vm').heap[(T'.heap.size + 2)]? = some (freshCell P1.m.cls kX) := w4
  have X5 := ((((X4.stored hcell T.fCause.slot (.ref (T'.heap.size + 2))).storedAgain ha T.fStack.slot u0.v).storedAgain ha T.fSupp.slot sen.v).storedAgain ha T.fStack.slot u0.v).storedAgain ha T.fMsg.slot (.ref (T'.heap.size + 1))
  simp only [List.append_assoc, List.cons_append, List.nil_append] at X5
  have b1 : (bytesOf Zs.cB (stringToUtf16 text)).slots.size = (stringBytes (stringToUtf16 text)).size := by
    rw [(Cell.writeAll_facts _ _).2.2]; simp [bytes0]
  have b2 : (stringAt Zs.cS Zs.kS Zs.fv Zs.fc (stringToUtf16 text) T'.heap.size).slots.size = 4 := by simp [string0, Cell.setSlot, hn4]
  have b3 : (freshCell P1.m.cls kX).slots.size = 6 := by simp [hn6]
  rw [b1, b2, b3, show slots + (stringBytes (stringToUtf16 text)).size + 4 + 6 = slots + ((stringBytes (stringToUtf16 text)).size + 10) by omega] at X5
  refine ⟨_, _, _, _, X5, hb, ?_, ?_, ?_, heapAt_setCell_self _ ha, hfound, rfl, fun target hrest => ?_⟩
  · intro x hx
    simp only [List.mem_cons, List.not_mem_nil, or_false] at hx
    rcases hx with rfl | rfl | rfl | rfl | rfl <;> rfl
  · rw [size_setCell]; exact w3
  · intro q hq
    rw [heapAt_setCell_ne _ (show T'.heap.size + 2 ≠ q by omega)]
    exact w5 q hq
  · have hcurT : T'.cur < T'.threads.size := by
      obtain ⟨g₀, hfr⟩ := X.frames_eq
      exact State.cur_lt_of_frames hfr
    have hf0 : (T'.setFrames (.throwNew cls (some text) none :: F)).frames = .throwNew cls (some text) none :: F := State.frames_setFrames _ hcurT
    obtain ⟨mid, hmid⟩ := hF
    obtain ⟨hbeyond, hfreeW⟩ := ovr_free X hOv (.throwNew cls (some text) none) (fun f hf => by cases hf) rfl
    obtain ⟨kX', hk', he'⟩ := hWW.alike.2.2 _ _ hk
    have hty : kX'.instanceTypes = kX.instanceTypes := by rw [he']
    have hfresh : freshCell P1.m.cls kX' = freshCell P1.m.cls kX := by
      show ({ cls := P1.m.cls, slots := kX'.instanceTypes.map defaultValue, vm := .none } : Cell) = _
      rw [hty]
    obtain ⟨kS', kB', LZ', htyS⟩ := LZs.warmer hWW.alike
    have hsame : withThrown T' { Zs with kS := kS', kB := kB' } text P1.m.cls kX' = (withThrown T' Zs text P1.m.cls kX) := by
      rw [← withThrown_warmer T' Zs (kB' := kB') htyS text P1.m.cls kX]
      show (withString T' _ _ _ _ _ _).pushCell (freshCell P1.m.cls kX') = (withString T' _ _ _ _ _ _).pushCell (freshCell P1.m.cls kX)
      rw [hfresh]
    have hfs : (T'.setFrames (.throwNew cls (some text) none :: F)).fitsSlot = s.fitsSlot := (show (T'.setFrames (.throwNew cls (some text) none :: F)).fitsSlot = (s.setVm T'.vm).fitsSlot from rfl).trans (State.fitsSlot_setVm hWW.alike)
    refine Steps.head ⟨X.here.running, by simpa using X.here.runnable, by simpa using X.here.alone⟩ ⟨.throwNew cls (some text) none :: mid, by rw [hf0, hmid]; rfl, by simp, by simp⟩ ?_
    rw [stepThread_throwNew hf0, stepThrowNew_message (s := T'.setFrames (.throwNew cls (some text) none :: F)) (c := P1.m.cls) (k := kX') (i := P1.m.idx) { Zs with kS := kS', kB := kB' } LZ' hsoe hoom (by show T'.vm.findClass _ = _; rw [hWW.alike.findClass]; exact hfound) hk' (by rw [he']; exact hinit) (by rw [he']; exact hord) (Launch.admits_hotImplicitExceptions X.admits) hbeyond hfreeW htext (by rw [he']; exact hctor) hlimit hheap (X.cellsAbove hRcells)
      (by
        have h9 := X.slotsAbove hRslots
        show T'.slotsUsed + _ + kS'.instanceTypes.size + kX'.instanceTypes.size ≤ _
        rw [htyS, hty, hn4, hn6]
        omega)
      (by rw [hfs]; exact hfitv _) (by rw [hfs]; exact hfitc _)]
    rw [withThrown_setFrames, State.setFrames_setFrames, hsame]
    exact st target hrest
end OVM
