/-! CAST: a cast that fails; K7: the tables with what cannot be cast, and the modules -/
set_option maxRecDepth 100000
section CASTNO
variable {p : Program} {l : Launch} {e : Env} {R : Room} {s : State} {m : MethodId} {args : Array Value} {below : List Frame} {meth : Method} {c : Code} {T : State} {H : Heap} {locs : List Loc} {cells slots : Nat} {A : Nat → Prop}
theorem castNo (X : Stand p l e R s m args below meth c T locs cells slots) (hexec : p.tables.exec = Jvm.exec)
    {own name : String} {index : Nat} (hown : s.vm.findClass own = some m.cls) (hlink : (Cond.classLink own index name).before args s = true)
    {a : Addr} {cell : Cell} {cT : ClassId} {ks : Class} (hcell : T.heap[a]? = some cell) (hobj : cell.vm.isStatics = false) (hks : s.vm.classes[cell.cls]? = some ks) (hcT : s.vm.findClass name = some cT) (hasg : s.vm.assignable cell.cls cT = false)
    {g : JFrame} (hg : g.method = m) {rest : List Value} (hstack : g.stack = .ref a :: rest) (hdg : decode c.code g.pc = .ok (.checkcast index, 3)) :
    ∃ (vm' : Vm) (ks' kt' : Class), Stand p l e R s m args below meth c (T.setVm vm') locs cells slots ∧ s.vm.Alike vm' ∧ vm'.classes[cell.cls]? = some ks' ∧ vm'.classes[cT]? = some kt' ∧
      ∀ target, Steps p.tables e below (((T.setVm vm').setTop g).pushFrame (.throwNew "java/lang/ClassCastException" (some (checkcast.message vm' ks' kt')) none)) target → Steps p.tables e below (T.setTop g) target := by
  have hpl : e.platform.magicAccessors = ({} : Platform).magicAccessors := by rw [X.admits.platform]
  obtain ⟨c', hc', hcl⟩ := Cond.classLink_spec hown hlink e.platform hpl
  cases hcT.symm.trans hc'
  obtain ⟨dk, _, _, kt, hd, _, _, _, _, hkt, _, hopen⟩ := hcl.here
  have hcl₀ := X.warmed.classLinks hcl
  have hW' : s.WarmedH (T.vm.noted m.cls index (.cls cT)) := X.warmed.noted hd hopen (State.rightAt_cls hcl)
  obtain ⟨ks', hks', -⟩ := hW'.alike.2.2 _ _ hks
  obtain ⟨kt', hkt', -⟩ := hW'.alike.2.2 _ _ hkt
  refine ⟨_, ks', kt', X.noted hW', hW'.alike, hks', hkt', fun target hrest => ?_⟩
  subst hg
  jvm_step X.here [hexec, hdg, checkcast.wp_cold (e := e) (s := T) (f := g) X.here.top hstack (resolveClass_links e.toSetting hcl₀) hcl₀.ready,
    checkcast.wp_ready (e := e) (s := T.setVm (T.vm.noted g.method.cls index (.cls cT))) (f := g) X.here.top hcl₀.ready hstack]
  refine ⟨cell, hcell, VmData.noStatics_of hobj, ks', hks', kt', hkt', ?_⟩
  rw [if_neg (by show ¬ (T.vm.noted g.method.cls index (Resolved.cls cT)).assignable cell.cls cT = true; rw [hW'.alike.assignable, hasg]; decide)]
  exact hrest
/-- the walk ends: the machine throws with a text; the tables may be warmer then -/
theorem tz_msgX {g : JFrame} {cls : String} {names : List String} {B : Nat} (hexec : p.tables.exec = Jvm.exec) (htr : e.platform.stackTraces = false) (hcls : Bundle.fit cls = true) (hnames : ∀ n ∈ names, Bundle.fit n = true) (hsoe : (cls == "java/lang/StackOverflowError") = false) (hoom : (cls == "java/lang/OutOfMemoryError") = false)
    (h : ∀ a ∈ Bundle.messageArmAtoms cls names, a.before args s = true) (hlocs : ∀ x ∈ locs, ∀ cell, s.heap[x.base]? = some cell → cell.vm.isStatics = false) (hA : ∀ x ∈ locs, A x.base) (hB : B ≤ 100000)
    (hg : g.method = m) (hsize : g.locals.size = c.maxLocals) (hlocked : g.locked = none) (hentered : g.entered = []) (htab : c.exceptionTable.isEmpty = true) (hlocks : meth.locks = false)
    (hRframes : names.length + 4 < R.frames) (hRlocals : 2 * g.monitorRoom + (g.stack.map fun v => v.category).sum + 10240 ≤ R.locals) (hshort : 13 * names.length + 55 ≤ 10240) (hRcells : cells + 3 ≤ R.cells) (hRslots : slots + B ≤ R.slots) {g0 : JFrame}
    (hstep : ∀ T : State, T.heap = H → Stand p l e R s m args below meth c T locs cells slots → ∃ (T' : State) (text : String), T'.heap = H ∧ Stand p l e R s m args below meth c T' locs cells slots ∧ (text == notModelled) = false ∧ (stringBytes (stringToUtf16 text)).size + 10 ≤ B ∧
      ∀ target, Steps p.tables e below ((T'.setTop g).pushFrame (.throwNew cls (some text) none)) target → Steps p.tables e below (T.setTop g0) target) :
    W p l e R s m args below meth c H locs cells slots (TZ below A cls s (cells + 3) (slots + B)) g0 := by
  intro T0 hT0 X0
  obtain ⟨T, text, hT, X, htext, hb, hst⟩ := hstep T0 hT0 X0
  have hout : ∀ x ∈ c.exceptionTable.toList, covers x g.pc = false := by
    intro x hx
    rw [Array.isEmpty_iff] at htab
    rw [htab] at hx
    cases hx
  obtain ⟨U, h1, h2, h3, h4, ⟨n, hn, h5⟩, cb, cs, ce, -, -, hce, -, -, KE⟩ := X.messageArmCells hexec htr hcls hnames hsoe hoom h hlocs htext (by rw [Launch.admits_arrayLengthLimit X.admits]; omega) (by rw [Launch.admits_maxHeapBytes X.admits]; simp only [componentBytes]; omega) hg hsize hlocked hentered hout hRframes hRlocals hshort hRcells (by omega) hlocks
  have h6 := same_wk h5 (show n ≤ slots + B by omega)
  have hF : va_F A s U := F_same (t := ({ U with vm := s.vm } : State)) h6 hA
  exact ⟨U, hst U h1, _, h2, h3, ⟨⟨ce, hce, KE.cls, fun k hk => by rw [KE.vm] at hk; cases hk⟩, hF⟩, h4, locs, h6, hA⟩
end CASTNO
/-- what cannot be cast -/
def ncs : List (String × String) := [("[B", "[S"), ("[B", "[I"), ("[S", "[B"), ("[S", "[I"), ("[I", "[B"), ("[I", "[S"),
  ("java/lang/ClassCastException", "java/lang/NullPointerException"), ("java/lang/ArrayIndexOutOfBoundsException", "java/lang/NullPointerException"), ("java/lang/ArrayIndexOutOfBoundsException", "java/lang/ClassCastException"), ("java/lang/ArrayStoreException", "java/lang/NullPointerException"),
  ("java/lang/ArrayStoreException", "java/lang/ClassCastException"), ("java/lang/NegativeArraySizeException", "java/lang/NullPointerException"), ("java/lang/NegativeArraySizeException", "java/lang/ClassCastException"), ("java/lang/NegativeArraySizeException", "java/lang/ArrayStoreException"),
  ("java/lang/IndexOutOfBoundsException", "java/lang/NullPointerException"), ("java/lang/IndexOutOfBoundsException", "java/lang/ClassCastException"), ("java/lang/IndexOutOfBoundsException", "java/lang/ArrayStoreException"), ("java/lang/IndexOutOfBoundsException", "java/lang/NegativeArraySizeException"),
  ("java/lang/ArrayIndexOutOfBoundsException", "java/lang/ArrayStoreException"), ("java/lang/ArrayIndexOutOfBoundsException", "java/lang/NegativeArraySizeException"),
  ("CallRounds$Ring", "CallRounds$News"), ("CallRounds$Ring", "CallRounds$Whole"), ("CallRounds$News", "CallRounds$Whole")]
def NC (U : State) : Prop := ∀ (k : Nat) (q : String × String), ncs[k]? = some q → va_Nc q.1 q.2 U
def MR (U : State) : Prop := modulesRight_1 U = true
/-- the text of need's exception is in the pool -/
abbrev SR (U : State) : Prop := va_Nw (.stringRef "CallRounds" 315 "not all there") U
def K7 (D : va_G) (dA : Nat → ClassId) (cT : ClassId) (zs zu ze : Nat) (U : State) : Prop := K6 D dA cT zs zu ze U ∧ NC U ∧ MR U ∧ SR U
theorem Alike_modules {vm vm' : Vm} (h : vm.Alike vm') : vm'.modules = vm.modules := by
  rw [h.1]
theorem MR.moved {u U : State} (hvm : u.vm.Alike U.vm) (h : MR u) : MR U := by
  unfold MR modulesRight_1 at h ⊢
  rw [Alike_modules hvm]
  exact h
theorem sr_tr {u U : State} {A A' : Array Value} (h : (Cond.stringRef "CallRounds" 315 "not all there").before A (u.setVm U.vm) = true) : (Cond.stringRef "CallRounds" 315 "not all there").before A' U = true := h
theorem Wm_K7 {D : va_G} {dA : Nat → ClassId} {cT : ClassId} {zs zu ze : Nat} : Wm (K7 D dA cT zs zu ze) := fun _ _ hW h => ⟨Wm_K6 _ _ hW h.1, fun k q hq => (h.2.1 k q hq).moved hW.alike, h.2.2.1.moved hW.alike, sr_tr (Cond.stringRef_warmed hW h.2.2.2)⟩
/-- what the tables say of a class that is found by its name -/
theorem found_facts {vm : Vm} {name : String} {c : ClassId} {k : Class} (h : vm.findClass name = some c) (hk : vm.classes[c]? = some k) : k.name = name ∧ k.hidden = none ∧ k.loader = none := by
  obtain ⟨hlt, hp, _⟩ := Array.findIdx?_eq_some_iff_getElem.mp h
  have e : vm.classes[c] = k := by
    rw [Array.getElem?_eq_getElem hlt] at hk
    exact Option.some.inj hk
  rw [e] at hp
  simp only [Bool.and_eq_true, beq_iff_eq, Option.isNone_iff_eq_none] at hp
  exact ⟨hp.1.1.1, hp.1.1.2, hp.2⟩
theorem home_len {U : State} (hM : MR U) {k : Class} (hl : k.loader = none) (hpk : packageOf k.name = "") : (U.vm.home k).toList.length ≤ 38 := by
  have hm : ∀ m, U.vm.moduleOf k = some m → m.name = "java.base" := by
    intro m hm
    unfold Vm.moduleOf at hm
    split at hm
    · have := List.find?_some hm
      simpa using this
    · have h1 := List.find?_some hm
      have h2 := List.mem_of_find?_eq_some hm
      rw [hpk, hl] at h1
      simp only [Bool.and_eq_true, beq_iff_eq] at h1
      unfold MR modulesRight_1 at hM
      have h3 := (List.all_eq_true.mp hM) m h2
      rw [h1.1] at h3
      have h4 : (castPackages_1.any fun p => m.packages.contains p) = true := List.any_eq_true.mpr ⟨"", by decide, h1.2⟩
      rw [h4] at h3
      simpa using h3
  unfold Vm.home
  rw [hl]
  cases h : U.vm.moduleOf k with
  | none => exact (by decide +kernel : ("unnamed module" ++ " of loader " ++ "'bootstrap'").toList.length ≤ 38)
  | some m =>
    show (("module " ++ m.name) ++ " of loader " ++ Vm.loaderName U.vm none).toList.length ≤ 38
    rw [hm m h]
    exact (by decide +kernel : ("module " ++ "java.base" ++ " of loader " ++ "'bootstrap'").toList.length ≤ 38)
theorem shown_len {k : Class} (hh : k.hidden = none) : k.shown.toList.length = k.name.toList.length := by
  unfold Class.shown
  rw [hh]
  show (dotted k.name).toList.length = _
  unfold dotted turned
  rw [String.toList_ofList, List.length_map]
theorem homes_len {U : State} (hM : MR U) {a b : Class} (ha : a.loader = none ∧ a.hidden = none ∧ packageOf a.name = "" ∧ a.name.toList.length ≤ 20) (hb : b.loader = none ∧ b.hidden = none ∧ packageOf b.name = "" ∧ b.name.toList.length ≤ 20) : (U.vm.homes a b).toList.length ≤ 140 := by
  have a1 := home_len hM ha.1 ha.2.2.1
  have a2 := home_len hM hb.1 hb.2.2.1
  have a3 := shown_len ha.2.1
  have a4 := shown_len hb.2.1
  have a5 := ha.2.2.2
  have a6 := hb.2.2.2
  unfold Vm.homes
  split
  · show (toString a.shown ++ toString " and " ++ toString b.shown ++ toString " are in " ++ toString (U.vm.home a)).toList.length ≤ 140
    simp only [String.toList_append, List.length_append]
    have b1 : (toString " and ").toList.length = 5 := by decide
    have b2 : (toString " are in ").toList.length = 8 := by decide
    simp only [toString] at *
    omega
  · show (toString a.shown ++ toString " is in " ++ toString (U.vm.home a) ++ toString "; " ++ toString b.shown ++ toString " is in " ++ toString (U.vm.home b)).toList.length ≤ 140
    simp only [String.toList_append, List.length_append]
    have b1 : (toString " is in ").toList.length = 7 := by decide
    have b2 : (toString "; ").toList.length = 2 := by decide
    simp only [toString] at *
    omega
theorem cast_text {U : State} (hM : MR U) {a b : Class} (ha : a.loader = none ∧ a.hidden = none ∧ packageOf a.name = "" ∧ a.name.toList.length ≤ 20) (hb : b.loader = none ∧ b.hidden = none ∧ packageOf b.name = "" ∧ b.name.toList.length ≤ 20) :
    (checkcast.message U.vm a b == notModelled) = false ∧ (stringBytes (stringToUtf16 (checkcast.message U.vm a b))).size + 10 ≤ 900 := by
  have e : checkcast.message U.vm a b = toString "class " ++ toString a.shown ++ toString " cannot be cast to class " ++ toString b.shown ++ toString " (" ++ toString (U.vm.homes a b) ++ toString ")" := rfl
  constructor
  · rw [beq_eq_false_iff_ne]
    intro h
    have h2 := congrArg String.toList h
    rw [e] at h2
    simp only [String.toList_append] at h2
    have h4 : notModelled.toList = '\u0000' :: " a message that is not modelled".toList := by decide
    have h5 : (toString "class ").toList = 'c' :: "lass ".toList := by decide
    rw [h4, h5] at h2
    simp at h2
  · have b1 := stringBytes_size_le (stringToUtf16 (checkcast.message U.vm a b))
    have b2 := utf16_size_le (checkcast.message U.vm a b)
    have b3 : (checkcast.message U.vm a b).toList.length ≤ 214 := by
      rw [e]
      simp only [String.toList_append, List.length_append]
      have c1 : (toString "class ").toList.length = 6 := by decide
      have c2 : (toString " cannot be cast to class ").toList.length = 25 := by decide
      have c3 : (toString " (").toList.length = 2 := by decide
      have c4 : (toString ")").toList.length = 1 := by decide
      have c5 := homes_len hM ha hb
      have a3 := shown_len ha.2.1
      have a4 := shown_len hb.2.1
      have a5 := ha.2.2.2
      have a6 := hb.2.2.2
      simp only [toString] at *
      omega
    omega
theorem idx_all {D : va_G} {dA : Nat → ClassId} {cT : ClassId} {zs zu ze : Nat} {s : State} {args : Array Value} (hts : ∀ w ∈ lw_all, w.before args s = true) (hK : K6 D dA cT zs zu ze s) (hT : TH cT zs zu ze s.heap) : ∀ a ∈ Bundle.messageArmAtoms "java/lang/ArrayIndexOutOfBoundsException" ["java/lang/IndexOutOfBoundsException", "java/lang/RuntimeException", "java/lang/Exception"], a.before args s = true := idx_ok hts hK.1.2 hK.2.1 hT.1 hK.2.2 hT.2
theorem cce_all {D : va_G} {dA : Nat → ClassId} {cT : ClassId} {zs zu ze : Nat} {s : State} {args : Array Value} (hts : ∀ w ∈ lw_all, w.before args s = true) (hK : K6 D dA cT zs zu ze s) (hT : TH cT zs zu ze s.heap) : ∀ a ∈ Bundle.messageArmAtoms "java/lang/ClassCastException" ["java/lang/RuntimeException", "java/lang/Exception"], a.before args s = true := cce_ok hts hK.1.2 hK.2.1 hT.1 hK.2.2 hT.2
theorem nas_all {D : va_G} {dA : Nat → ClassId} {cT : ClassId} {zs zu ze : Nat} {s : State} {args : Array Value} (hts : ∀ w ∈ lw_all, w.before args s = true) (hK : K6 D dA cT zs zu ze s) (hT : TH cT zs zu ze s.heap) : ∀ a ∈ Bundle.messageArmAtoms "java/lang/NegativeArraySizeException" ["java/lang/RuntimeException", "java/lang/Exception"], a.before args s = true := nas_ok hts hK.1.2 hK.2.1 hT.1 hK.2.2 hT.2
theorem ase_all {D : va_G} {dA : Nat → ClassId} {cT : ClassId} {zs zu ze : Nat} {s : State} {args : Array Value} (hts : ∀ w ∈ lw_all, w.before args s = true) (hK : K6 D dA cT zs zu ze s) (hT : TH cT zs zu ze s.heap) : ∀ a ∈ Bundle.messageArmAtoms "java/lang/ArrayStoreException" ["java/lang/RuntimeException", "java/lang/Exception"], a.before args s = true := ase_ok hts hK.1.2 hK.2.1 hT.1 hK.2.2 hT.2
section TZROWS
variable {p : Program} {l : Launch} {e : Env} {R : Room} {s : State} {m : MethodId} {args : Array Value} {below : List Frame} {meth : Method} {c : Code} {H : Heap} {locs : List Loc} {cells slots : Nat} {A : Nat → Prop}
variable {cc : ByteArray} {pc nL : Nat} {ls : Array Slot} {rest : List Value} {own : String} {index : Nat}
/-- the walk ends: a cast fails -/
theorem tz_cast {C nm : String} {a : Nat} (S : CallFix p m c cc nL s args lw_all own) (htr : e.platform.stackTraces = false) (hM : MR s) (hNc : va_Nc C nm s) (hpk : packageOf C = "" ∧ C.toList.length ≤ 20 ∧ packageOf nm = "" ∧ nm.toList.length ≤ 20) (hlink : (Cond.classLink own index nm).before args s = true)
    (h : ∀ a ∈ Bundle.messageArmAtoms "java/lang/ClassCastException" ["java/lang/RuntimeException", "java/lang/Exception"], a.before args s = true) (hlocs : ∀ x ∈ locs, ∀ cell, s.heap[x.base]? = some cell → cell.vm.isStatics = false) (hA : ∀ x ∈ locs, A x.base)
    (hr : ∃ cell : Cell, H[a]? = some cell ∧ cell.vm.isStatics = false ∧ s.vm.findClass C = some cell.cls) (hsz : ls.size = nL) (htab : c.exceptionTable.isEmpty = true) (hlocks : meth.locks = false)
    (hRframes : 6 < R.frames) (hRlocals : 1 + (rest.map fun v => v.category).sum + 10240 ≤ R.locals) (hRcells : cells + 3 ≤ R.cells) (hRslots : slots + 900 ≤ R.slots) (hdg : decode cc pc = .ok (.checkcast index, 3)) :
    W p l e R s m args below meth c H locs cells slots (TZ below A "java/lang/ClassCastException" s (cells + 3) (slots + 900)) (F0 m pc ls (.ref a :: rest)) := by
  obtain ⟨cell, h1, h2, h3⟩ := hr
  obtain ⟨c0, t0, f1, f2, f3⟩ := hNc
  cases h3.symm.trans f1
  obtain ⟨ks, hks, -⟩ := Vm.findClass_spec h3
  refine tz_msgX (g := F0 m pc ls (.ref a :: rest)) (B := 900) S.1 htr (by decide +kernel) (by decide +kernel) (by decide +kernel) (by decide +kernel) h hlocs hA (by decide) rfl (hsz.trans S.2.2.1.symm) rfl rfl htab hlocks hRframes ?_ (by decide) hRcells hRslots (fun T hT X => ?_)
  · show 2 * 0 + ((Value.ref a).category + (rest.map fun v => v.category).sum) + 10240 ≤ R.locals
    have : (Value.ref a).category = 1 := rfl
    omega
  · obtain ⟨vm', ks', kt', X', hAl, k1, k2, st⟩ := castNo X S.1 S.2.2.2.1 hlink (by rw [hT]; exact h1) h2 hks f2 f3 (g := F0 m pc ls (.ref a :: rest)) rfl rfl (by rw [S.2.1]; exact hdg)
    have hM' : MR (T.setVm vm') := hM.moved (u := s) (U := T.setVm vm') hAl
    have n1 := found_facts (show vm'.findClass C = some cell.cls by rw [hAl.findClass]; exact f1) k1
    have n2 := found_facts (show vm'.findClass nm = some t0 by rw [hAl.findClass]; exact f2) k2
    have tx := cast_text (U := T.setVm vm') hM' (a := ks') (b := kt') ⟨n1.2.2, n1.2.1, by rw [n1.1]; exact hpk.1, by rw [n1.1]; exact hpk.2.1⟩ ⟨n2.2.2, n2.2.1, by rw [n2.1]; exact hpk.2.2.1, by rw [n2.1]; exact hpk.2.2.2⟩
    exact ⟨T.setVm vm', _, hT, X', tx.1, tx.2, st⟩
/-- a row is of its own class -/
theorem instA {Q : State → Prop} {D : va_G} {nm : String} {a L : Nat} {cA : ClassId} {f : Nat → Int32} (S : CallFix p m c cc nL s args lw_all own) (hlink : (Cond.classLink own index nm).before args s = true) (hP : va_P D vwCl [(a, .inl (cA, L, .inl f))] H) (hnm : s.vm.findClass nm = some cA) (hdg : decode cc pc = .ok (.instanceof index, 3))
    (k : W p l e R s m args below meth c H locs cells slots Q (F0 m (pc + 3) ls (.int 1 :: rest))) : W p l e R s m args below meth c H locs cells slots Q (F0 m pc ls (.ref a :: rest)) := by
  intro T hT X
  obtain ⟨vm', X', st⟩ := X.instanceofYes S.1 S.2.2.2.1 hlink (cell := vp_cell cA (L, .inl f)) (by rw [hT]; exact hP 0 _ rfl) rfl hnm (va_asg _ _) (g := F0 m pc ls (.ref a :: rest)) rfl rfl (by rw [S.2.1]; exact hdg)
  obtain ⟨t, a1, b1⟩ := k (T.setVm vm') hT X'
  exact ⟨t, st t a1, b1⟩
end TZROWS
theorem rowCell {D : va_G} {H : Heap} {rk L t : Nat} {dA : Nat → ClassId} {f : Nat → Int32} (h : va_P D vwCl [(rk, .inl (dA t, L, .inl f))] H) {s : State} {nm : String} (hn : s.vm.findClass nm = some (dA t)) : ∃ cell : Cell, H[rk]? = some cell ∧ cell.vm.isStatics = false ∧ s.vm.findClass nm = some cell.cls := ⟨_, h 0 _ rfl, rfl, hn⟩
