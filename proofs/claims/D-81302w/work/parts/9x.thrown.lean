/-! THROWN: contracts of methods that throw; their calls from a frame that may catch -/
set_option maxRecDepth 100000
def TMet (l : Launch) (y : MethodName) (ws : List Cond) (rm : Room) (Pc : Array Value → State → Prop) (Qt : Array Value → State → Addr → State → Prop) (mc ms : Nat) (free : Addr → Prop) : Prop :=
  MetFree l y (headSpec ws rm) Pc (fun _ _ _ _ _ => True) (fun a st o t => ∃ x, o = .threw x ∧ Qt a st x t ∧ st.WarmedH t.vm ∧ ∃ L, st.sameButNew ({ t with vm := st.vm } : State) L mc ms ∧ ∀ q ∈ L, free q.base)
def PostT (Qt : Array Value → State → Addr → State → Prop) (mc ms : Nat) (free : Addr → Prop) : Pt → Array Value → Addr → Pt → Prop := fun A a x B =>
  ∃ (g : JFrame) (mk : MethodId) (t : State) (L : List Loc), B.U.heap = t.heap ∧ B.U.vm = t.vm ∧ Qt a (A.U.calling g mk a) x t ∧ B.locs = A.locs ++ L ∧ (∀ q ∈ L, free q.base) ∧ B.cells = A.cells + mc ∧ B.slots = A.slots + ms
/-- the callee throws: the walk stands with the note of the throw over its own frame -/
def BackT (l : Launch) (R : Room) (p : Program) (e : Env) (below : List Frame) (s : State) (sargs : Array Value) (y : MethodName) (W : Nat) (Pre : Pt → Array Value → Prop) (Post : Pt → Array Value → Addr → Pt → Prop) : Prop :=
  ∀ (m : MethodId) (meth : Method) (c : Code) (A : Pt) (g : JFrame) (ig : Instr) (len : Nat) (mk : MethodId) (a : Array Value),
    Stand p l e R s m sargs below meth c A.U A.locs A.cells A.slots → g.method = m → g.locals.size = c.maxLocals → decode c.code g.pc = .ok (ig, len) →
    2 * g.monitorRoom + (g.stack.map fun v => v.category).sum ≤ W → A.U.methodNamed? y = some mk → Pre A a →
    ∃ (x : Addr) (B : Pt), Stand p l e R s m sargs below meth c B.U B.locs B.cells B.slots ∧ Post A a x B ∧ Steps p.tables e below (doInvoke e (A.U.setTop g) [] mk a).1 (thrw B.U g x)
theorem backT {l : Launch} {R : Room} {p : Program} {e : Env} {below : List Frame} {s : State} {sargs : Array Value} {y : MethodName} {W : Nat} {ws : List Cond} {rm : Room} {Pc : Array Value → State → Prop} {Qt : Array Value → State → Addr → State → Prop} {mc ms : Nat} {free : Addr → Prop} {bytes : ByteArray} {maxL : Nat} {ret : Option FieldType}
    (hM : TMet l y ws rm Pc Qt mc ms free) (hblind : FrameBlind Pc) (hrc : rm.cells = mc) (hrs : rm.slots = ms) (hframes : rm.frames + 1 ≤ R.frames) (hlocals : W + (maxL + 11) + rm.locals ≤ R.locals)
    (hws : ∀ w ∈ ws, ∀ (a' : Array Value) (U : State), s.WarmedH U.vm → w.before a' U = true) (hcode : Cond.code y bytes maxL ret ∈ ws) (hinit : ∀ (a' : Array Value) (U : State), s.WarmedH U.vm → (Cond.initialized y.cls).before a' U = true) :
    BackT l R p e below s sargs y W (PreOf R mc ms Pc) (PostT Qt mc ms free) := by
  intro m meth c A g ig len mk a X hg hsize hdg hW hn hp
  obtain ⟨U, Ls, c0, s0⟩ := A
  obtain ⟨h4, h5, hp3⟩ := hp
  dsimp only [Pt.U, Pt.locs, Pt.cells, Pt.slots] at h4 h5 hp3 X hn ⊢
  obtain ⟨methY, cY, hmY, hcY, -, hlY, -, -, -, -⟩ := Cond.code_spec hn (hws _ hcode a U X.warmed)
  obtain ⟨kY, hkY, -⟩ := className_of_methodNamed hn
  have hinitY : kY.init = .initialized := Cond.initialized_spec (findClass_of_methodNamed hn) hkY (hinit a U X.warmed)
  have h : At U g.method c below := by rw [hg]; exact X.here
  have happ : (headSpec ws rm).appliesLoose y e.platform (U.calling g mk a) = true :=
    Spec.appliesLoose_calling (g := g) h hdg hn hkY hinitY (X.room_calling (g := g) (R' := (headSpec ws rm).room) hsize hmY hcY hframes (by rw [hlY]; show _ + _ + rm.locals ≤ _; omega) (by rw [show (headSpec ws rm).room.cells = mc from hrc]; exact h4) (by rw [show (headSpec ws rm).room.slots = ms from hrs]; exact h5)) (atoms_intro fun w hw => hws w hw _ _ X.warmed)
  have hft : (U.setTop g).frames = .java g :: below := by rw [State.frames_setTop' g h.top, X.tail]
  have hfr : (U.setTop g).frames = [.java g] ++ below := hft
  obtain ⟨o, s₂, hsteps, -, hend, x, rfl, hq, hW₂, L, hsame, hL⟩ := Steps.callFree hM p X.admits X.cas X.clock (acts := []) hfr happ (hblind _ _ _ _ hp3) trivial
  rw [hft] at hend
  obtain ⟨T', X', hWT, hsT, ht⟩ := X.outOfThrown hg hend hW₂ hsame
  refine ⟨x, ⟨T', Ls ++ L, c0 + mc, s0 + ms⟩, X', ⟨g, mk, s₂, L, ?_, ?_, hq, rfl, hL, rfl, rfl⟩, ?_⟩
  · show T'.heap = s₂.heap
    rw [ht]; exact (Stand.throwing_heap T' g x).symm
  · show T'.vm = s₂.vm
    rw [ht]; exact (Stand.throwing_vm T' g x).symm
  · show Steps p.tables e below _ (thrw T' g x)
    rw [show thrw T' g x = s₂ from ht.symm]
    exact hsteps
/-- what a throw leaves: an object of a class, known -/
abbrev exc (C : String) (s : State) (H : Heap) (x : Addr) : Prop := ∃ cell : Cell, H[x]? = some cell ∧ s.vm.findClass C = some cell.cls ∧ ∀ k, cell.vm ≠ .statics k
def TC (l : Launch) (y : MethodName) (code : ByteArray) (n : Nat) (ret : Option FieldType) (fr lc mc ms : Nat) (Kp : State → Prop) (av : List Value) (Pre : Heap → Prop) (A : Nat → Prop) (C : String) : Prop :=
  TMet l y (ws_ y code n ret) ({ frames := fr, cells := mc, slots := ms, locals := lc }) (va_Pc av (fun U => Kp U ∧ Pre U.heap)) (fun _ st x t => exc C st t.heap x ∧ va_F A st t) mc ms A
/-- the walk with the note of a throw over its frame -/
def WT (p : Program) (l : Launch) (e : Env) (R : Room) (s : State) (m : MethodId) (args : Array Value) (below : List Frame) (meth : Method) (c : Code) (H : Heap) (locs : List Loc) (cells slots : Nat) (Q : State → Prop) (g : JFrame) (x : Addr) : Prop :=
  ∀ T : State, T.heap = H → Stand p l e R s m args below meth c T locs cells slots → ∃ t, Steps p.tables e below (thrw T g x) t ∧ Q t
section TCR
variable {p : Program} {l : Launch} {e : Env} {R : Room} {s : State} {m : MethodId} {args : Array Value} {below : List Frame} {meth : Method} {c : Code} {H : Heap} {locs : List Loc} {cells slots : Nat} {Q : State → Prop}
variable {cc : ByteArray} {pc nL : Nat} {ls : Array Slot} {rest : List Value} {own : String} {A A0 : Nat → Prop} {H0 : Heap} {Kp : State → Prop} {mc ms : Nat}
variable {y : MethodName} {code : ByteArray} {n index : Nat} {ret : Option FieldType} {fr lc : Nat} {Pre : Heap → Prop} {C : String}
/-- a static call that throws -/
theorem tc_S (As : List Value) (nn : Nat) (S : CallFix p m c cc nL s args lw_all own) (hKw : Wm Kp) (hK : Kp s) (hS : va_S A0 H0 H locs) (hA : ∀ q, A q → A0 q) (hC : TC l y code n ret fr lc mc ms Kp As Pre A C)
    (hw : GoodIn lw_all (va_wsS own index y (ws_ y code n ret))) (hd : y.cls ≠ "java/lang/invoke/MethodHandle" ∧ y.cls ≠ "java/lang/invoke/VarHandle" ∧ (parseMethodDescriptor y.desc).map (fun d => d.parameters.length) = some nn) (hn : As.length = nn) (hR : fr + 1 ≤ R.frames ∧ 8 + (n + 11) + lc ≤ R.locals)
    (hsz : ls.size = nL) (hst : (rest.map fun v => v.category).sum ≤ 8) (hdg : decode cc pc = .ok (.invokestatic index, 3)) (hf : cells + mc ≤ R.cells ∧ slots + ms ≤ R.slots) (hPh : Pre H)
    (kk : ∀ (x : Addr) (H1 : Heap) (locs1 : List Loc), exc C s H1 x → H.size ≤ H1.size → (∀ q, q < H.size → ¬ A q → H1[q]? = H[q]?) → va_S A0 H0 H1 locs1 → WT p l e R s m args below meth c H1 locs1 (cells + mc) (slots + ms) Q (F0 m pc ls rest) x) {st : List Value} (hs : st = As.reverse ++ rest) : W p l e R s m args below meth c H locs cells slots Q (F0 m pc ls st) := by
  have cw := va_cwS (R := R) (mc := mc) (ms := ms) (rm := ({ frames := fr, cells := mc, slots := ms, locals := lc })) nn S.2.2.2.2 hw rfl rfl rfl hd hR
  obtain ⟨⟨hrc, hrs, hfr, hlo, hws, hcw, hcode, hini, hy, hlen, hl⟩, hstt⟩ := cw
  have hBk : BackT l R p e below s args y 8 (PreOf R mc ms (va_Pc As (fun U => Kp U ∧ Pre U.heap))) (PostT (fun _ st x t => exc C st t.heap x ∧ va_F A st t) mc ms A) := backT (bytes := code) (maxL := n) (ret := ret) hC (g_blind hKw) hrc hrs hfr hlo hws hcw (fun a' U hW => word_at hW (Or.inl (by first | rfl | simp [Cond.onTables, Cond.keeps, Cond.steady])) hini)
  intro T hT X
  obtain ⟨mk, hnamed⟩ := Cond.code_named hcode
  obtain ⟨methM, cM, hmethM, -, -, -, -, -, -, hsigM⟩ := Cond.code_spec hnamed hcode
  have hstatic : methM.isStatic = true := Cond.static_spec hnamed hmethM hstt
  obtain ⟨kP, hkP, -⟩ := className_of_methodNamed hnamed
  have hinitP : kP.init = .initialized := Cond.initialized_spec (findClass_of_methodNamed hnamed) hkP hini
  obtain ⟨vm₁, X₁, hstep₁⟩ := X.invokestatic S.1 S.2.2.2.1 hl hnamed hmethM hstatic hkP hinitP hy (g := F0 m pc ls st) rfl (argsL := As) (rest := rest) (hn.trans (hlen _ hsigM)) hs (by rw [S.2.1]; exact hdg)
  obtain ⟨x, ⟨U', l2, c2, s2⟩, X', ⟨g', mk', t, L, e1, e2, ⟨⟨cell, q1, q2, q3⟩, hF⟩, h1, hL, h2, h3⟩, hsteps⟩ := hBk m meth c ⟨T.setVm vm₁, locs, cells, slots⟩ { (F0 m pc ls st) with stack := rest } (.invokestatic index) 3 mk As.toArray X₁ rfl (hsz.trans S.2.2.1.symm) (by rw [S.2.1]; exact hdg) (lv_room hst) (X₁.named hnamed) ⟨hf.1, hf.2, rfl, hKw _ _ X₁.warmed hK, by show Pre T.heap; rw [hT]; exact hPh⟩
  dsimp only [Pt.U, Pt.locs, Pt.cells, Pt.slots] at X' e1 e2 h1 h2 h3 hsteps
  subst h1; subst h2; subst h3
  have hz : H.size ≤ t.heap.size := by rw [← hT]; exact hF.1
  have ho : ∀ q, q < H.size → ¬ A q → t.heap[q]? = H[q]? := fun q g1 g2 => by rw [hF.2 q (by rw [← hT] at g1; exact g1) g2, ← hT]; rfl
  have hS' : va_S A0 H0 t.heap (locs ++ L) := by
    refine ⟨Nat.le_trans hS.1 hz, fun q g1 g2 => ?_, fun q hq => ?_⟩
    · rw [ho q (Nat.lt_of_lt_of_le g1 hS.1) (fun z => g2 (hA q z))]
      exact hS.2.1 q g1 g2
    · rcases List.mem_append.mp hq with h | h
      · exact hS.2.2 q h
      · exact hA _ (hL q h)
  obtain ⟨t2, a1, b1⟩ := kk x t.heap (locs ++ L) ⟨cell, q1, (by rw [← X₁.warmed.alike.findClass]; exact q2), q3⟩ hz ho hS' U' e1 X'
  exact ⟨t2, hstep₁ _ fun acts => by rw [doInvoke_state]; exact hsteps.trans a1, b1⟩
end TCR
