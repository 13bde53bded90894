/-! TZMSG: the walk ends: the machine throws with a text -/
set_option maxRecDepth 100000
theorem same_wk {s t : State} {locs : List Loc} {k n n' : Nat} (h : s.sameButNew t locs k n) (hn : n ≤ n') : s.sameButNew t locs k n' := ⟨h.1, h.2.1, h.2.2.1, h.2.2.2.1, Nat.le_trans h.2.2.2.2.1 hn, h.2.2.2.2.2⟩
section MSG
variable {p : Program} {l : Launch} {e : Env} {R : Room} {s : State} {m : MethodId} {args : Array Value} {below : List Frame} {meth : Method} {c : Code} {H : Heap} {locs : List Loc} {cells slots : Nat} {A : Nat → Prop}
theorem tz_msg {g : JFrame} {cls : String} {names : List String} {text : String} {B : Nat} (hexec : p.tables.exec = Jvm.exec) (htr : e.platform.stackTraces = false) (hcls : Bundle.fit cls = true) (hnames : ∀ n ∈ names, Bundle.fit n = true) (hsoe : (cls == "java/lang/StackOverflowError") = false) (hoom : (cls == "java/lang/OutOfMemoryError") = false)
    (h : ∀ a ∈ Bundle.messageArmAtoms cls names, a.before args s = true) (hlocs : ∀ x ∈ locs, ∀ cell, s.heap[x.base]? = some cell → cell.vm.isStatics = false) (hA : ∀ x ∈ locs, A x.base)
    (htext : (text == notModelled) = false) (hlimit : ¬ (stringBytes (stringToUtf16 text)).size > e.platform.arrayLengthLimit) (hheap : ¬ (stringBytes (stringToUtf16 text)).size * componentBytes .byte > e.platform.maxHeapBytes) (hB : (stringBytes (stringToUtf16 text)).size + 4 + 6 ≤ B)
    (hg : g.method = m) (hsize : g.locals.size = c.maxLocals) (hlocked : g.locked = none) (hentered : g.entered = []) (htab : c.exceptionTable.isEmpty = true) (hlocks : meth.locks = false)
    (hRframes : names.length + 4 < R.frames) (hRlocals : 2 * g.monitorRoom + (g.stack.map fun v => v.category).sum + 10240 ≤ R.locals) (hshort : 13 * names.length + 55 ≤ 10240) (hRcells : cells + 3 ≤ R.cells) (hRslots : slots + B ≤ R.slots) {g0 : JFrame}
    (hstep : ∀ T : State, T.heap = H → Stand p l e R s m args below meth c T locs cells slots → ∀ target, Steps p.tables e below ((T.setTop g).pushFrame (.throwNew cls (some text) none)) target → Steps p.tables e below (T.setTop g0) target) :
    W p l e R s m args below meth c H locs cells slots (TZ below A cls s (cells + 3) (slots + B)) g0 := by
  intro T hT X
  have hout : ∀ x ∈ c.exceptionTable.toList, covers x g.pc = false := by
    intro x hx
    rw [Array.isEmpty_iff] at htab
    rw [htab] at hx
    cases hx
  obtain ⟨U, h1, h2, h3, h4, ⟨n, hn, h5⟩, cb, cs, ce, -, -, hce, -, -, KE⟩ := X.messageArmCells hexec htr hcls hnames hsoe hoom h hlocs htext hlimit hheap hg hsize hlocked hentered hout hRframes hRlocals hshort hRcells (by omega) hlocks
  have h6 := same_wk h5 (show n ≤ slots + B by omega)
  have hF : va_F A s U := F_same (t := ({ U with vm := s.vm } : State)) h6 hA
  exact ⟨U, hstep T hT X U h1, _, h2, h3, ⟨⟨ce, hce, KE.cls, fun k hk => by rw [KE.vm] at hk; cases hk⟩, hF⟩, h4, locs, h6, hA⟩
end MSG
