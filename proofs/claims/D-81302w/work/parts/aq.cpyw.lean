/-! CPYW: the walk stands with the note of a throw out of System.arraycopy -/
set_option maxRecDepth 100000
theorem nfw : nativeFrameWords "java/lang/System" "arraycopy" 5 + 11 ≤ 10240 := by decide +kernel
section CPYW
variable {p : Program} {l : Launch} {e : Env} {R : Room} {s : State} {m : MethodId} {args : Array Value} {below : List Frame} {meth : Method} {c : Code} {H : Heap} {locs : List Loc} {cells slots : Nat} {Q : State → Prop} {A0 : Nat → Prop} {H0 : Heap}
variable {cc : ByteArray} {pc nL : Nat} {ls : Array Slot} {rest : List Value} {own : String} {index : Nat}
theorem set_push {T : State} (X : Stand p l e R s m args below meth c T locs cells slots) (F : List Frame) (f : Frame) : (T.setFrames F).pushFrame f = T.setFrames (f :: F) := by
  obtain ⟨g₀, hfr⟩ := X.frames_eq
  rw [State.pushFrame, State.frames_setFrames _ (State.cur_lt_of_frames hfr), State.setFrames_setFrames]
/-- into the native: the note of its throw lies over its frame -/
theorem cp_into {T : State} (X : Stand p l e R s m args below meth c T locs cells slots) (S : CallFix p m c cc nL s args lw_all own) (hlink : Cond.methodLink own index arraycopyName ∈ lw_all) (hnat : Cond.native arraycopyName ∈ lw_all) (hstat : Cond.static arraycopyName ∈ lw_all) (hini : Cond.initialized "java/lang/System" ∈ lw_all)
    {src dst : Value} (hsr : src = .null ∨ ∃ q, src = .ref q) (hds : dst = .null ∨ ∃ q, dst = .ref q) {sp dp n : Int32} {cls : String} {msg : Option String}
    (hw : ∀ (U : State), U.heap = T.heap → s.vm.Alike U.vm → ∀ (E : CtlPost) (acts : List Action), (∀ acts', E (.throwNew cls msg) acts' U) → wp (Native.java_lang_System.arraycopy.sem #[src, .int sp, dst, .int dp, .int n]) (fun _ _ _ _ => False) E e false acts U)
    (hsz : ls.size = nL) (hframes : 1 ≤ R.frames) (hlocals : (rest.map fun v => v.category).sum + (nativeFrameWords "java/lang/System" "arraycopy" 5 + 11) ≤ R.locals) (hdg : decode cc pc = .ok (.invokestatic index, 3)) :
    ∃ (T' : State) (nf : NFrame), T'.heap = T.heap ∧ Stand p l e R s m args below meth c T' locs cells slots ∧ nf.words = 0 ∧ nf.awaiting = false ∧ nf.locked = none ∧
      ∀ target, Steps p.tables e below (T'.setFrames (.throwNew cls msg none :: .native nf :: .java (F0 m pc ls rest) :: below)) target → Steps p.tables e below (T.setTop (F0 m pc ls (.int n :: .int dp :: dst :: .int sp :: src :: rest))) target := by
  obtain ⟨r, kS, methS, hnS, hmS, hkS, N⟩ := NativeOf.of_static (S.2.2.2.2 _ hnat) (S.2.2.2.2 _ hstat) (ps := [.object "java/lang/Object", .int, .object "java/lang/Object", .int, .int]) (ret := none) (by decide +kernel)
  have hinitS : kS.init = .initialized := Cond.initialized_spec (findClass_of_methodNamed hnS) hkS (S.2.2.2.2 _ hini)
  obtain ⟨vm', X', step⟩ := X.invokestatic S.1 S.2.2.2.1 (S.2.2.2.2 _ hlink) hnS hmS N.static hkS hinitS (by decide) (g := F0 m pc ls (.int n :: .int dp :: dst :: .int sp :: src :: rest)) rfl (argsL := [src, .int sp, dst, .int dp, .int n]) (rest := rest) (by rw [N.sig]; rfl) rfl (by rw [S.2.1]; exact hdg)
  obtain ⟨kS', N'⟩ := N.alike X'.warmed.alike
  have hseen : seenByNative methS #[src, .int sp, dst, .int dp, .int n] = #[src, .int sp, dst, .int dp, .int n] := by
    rcases hsr with rfl | ⟨q1, rfl⟩ <;> rcases hds with rfl | ⟨q2, rfl⟩ <;> simp [seenByNative, N.static, N.sig, narrow]
  have how : operandWords #[src, .int sp, dst, .int dp, .int n].toList = 5 := by
    rcases hsr with rfl | ⟨q1, rfl⟩ <;> rcases hds with rfl | ⟨q2, rfl⟩ <;> rfl
  refine ⟨T.setVm vm', { method := r, args := #[src, .int sp, dst, .int dp, .int n], locked := none }, rfl, X', rfl, rfl, rfl, fun target hrest => step target fun acts => ?_⟩
  have hpu : ∀ f, ((T.setVm vm').setTop (F0 m pc ls rest)).pushFrame f = (T.setVm vm').setFrames (f :: .java (F0 m pc ls rest) :: below) := fun f => st_push X' _ _
  refine nat_note (g := F0 m pc ls rest) (row := arraycopyRow) (cls := cls) (msg := msg) X'.here acts N'.cls N'.meth N'.boot N'.native N'.noCode N'.noLock (by rw [N'.className, N'.name, N'.desc]; exact arraycopy_row p)
    (by rw [N'.className, N'.name, how]; exact X'.notFull (g := F0 m pc ls rest) (hsz.trans S.2.2.1.symm) (vars := nativeFrameWords "java/lang/System" "arraycopy" 5) hframes (by show 2 * 0 + (rest.map fun v => v.category).sum + _ ≤ _; omega)) ?_ ?_
  · intro E hE
    rw [hseen, arraycopyRow_sem] at *
    exact hw (((T.setVm vm').setTop (F0 m pc ls rest)).pushFrame (.native { method := r, args := #[src, .int sp, dst, .int dp, .int n], locked := none })) rfl X'.warmed.alike E [] hE
  · rw [hseen, hpu, set_push X']
    exact hrest
theorem wt_copyN (S : CallFix p m c cc nL s args lw_all own) (hlink : Cond.methodLink own index arraycopyName ∈ lw_all) (hnat : Cond.native arraycopyName ∈ lw_all) (hstat : Cond.static arraycopyName ∈ lw_all) (hini : Cond.initialized "java/lang/System" ∈ lw_all) (htr : e.platform.stackTraces = false) (h : ∀ a ∈ Bundle.npeArmAtoms 8, a.before args s = true) (hns : ∀ q, A0 q → ∀ cell, s.heap[q]? = some cell → cell.vm.isStatics = false)
    {src dst : Value} (hnull : (src = .null ∧ (dst = .null ∨ ∃ q, dst = .ref q)) ∨ ((∃ q, src = .ref q) ∧ dst = .null)) {sp dp n : Int32}
    (hsz : ls.size = nL) (hframes : 8 < R.frames) (hlocals : (rest.map fun v => v.category).sum + 10240 ≤ R.locals) (hRcells : cells + 1 ≤ R.cells) (hRslots : slots + 8 ≤ R.slots) (hS : va_S A0 H0 H locs) (hA : ∀ q, H.size ≤ q → A0 q) (hdg : decode cc pc = .ok (.invokestatic index, 3))
    (kk : ∀ (x : Addr) (H1 : Heap) (locs1 : List Loc), exc "java/lang/NullPointerException" s H1 x → H.size ≤ H1.size → (∀ q, q < H.size → ¬ False → H1[q]? = H[q]?) → va_S A0 H0 H1 locs1 → WT p l e R s m args below meth c H1 locs1 (cells + 1) (slots + 8) Q (F0 m pc ls rest) x) : W p l e R s m args below meth c H locs cells slots Q (F0 m pc ls (.int n :: .int dp :: dst :: .int sp :: src :: rest)) := by
  intro T0 hT0 X0
  have hsr : src = .null ∨ ∃ q, src = .ref q := by rcases hnull with h | h; exact Or.inl h.1; exact Or.inr h.1
  have hds : dst = .null ∨ ∃ q, dst = .ref q := by rcases hnull with h | h; exact h.2; exact Or.inl h.2
  obtain ⟨T, nf, hT, X, n1, n2, n3, hst⟩ := cp_into X0 S hlink hnat hstat hini hsr hds (sp := sp) (dp := dp) (n := n) (cls := "java/lang/NullPointerException") (msg := none) (fun U _ _ E acts hE => wp_copyN hnull hE) hsz (by omega) (Nat.le_trans (Nat.add_le_add_left nfw _) hlocals) hdg
  obtain ⟨U, L, ce, XU, hL, hz, ho, hce, hcl, hvm, st⟩ := npeOver X S.1 htr h (fun y hy cell hc => hns _ (hS.2.2 y hy) cell hc) (F := .native nf :: .java (F0 m pc ls rest) :: below) ⟨[.native nf, .java (F0 m pc ls rest)], rfl⟩ (ovr_native X (hsz.trans S.2.2.1.symm) n1 hframes (by show 2 * 0 + (rest.map fun v => v.category).sum + 10240 ≤ R.locals; omega)) hRcells hRslots
  rw [hT0] at hT
  subst hT
  have hS1 : va_S A0 H0 U.heap (locs ++ L) := hS.made (by omega) ho (fun y hy => hA _ (by rw [hL y hy]; exact Nat.le_refl _))
  obtain ⟨t, a1, b1⟩ := kk T.heap.size U.heap (locs ++ L) ⟨ce, hce, hcl, fun k hk => by rw [hvm] at hk; cases hk⟩ (by omega) (fun q h _ => ho q h) hS1 U rfl XU
  refine ⟨t, hst t (st t (nat_leave XU.here ⟨[.java (F0 m pc ls rest)], rfl⟩ n2 n3 ?_)), b1⟩
  rw [← st_push XU]
  exact a1
theorem wt_copyM {cls : String} {names : List String} (S : CallFix p m c cc nL s args lw_all own) (hlink : Cond.methodLink own index arraycopyName ∈ lw_all) (hnat : Cond.native arraycopyName ∈ lw_all) (hstat : Cond.static arraycopyName ∈ lw_all) (hini : Cond.initialized "java/lang/System" ∈ lw_all) (htr : e.platform.stackTraces = false) (hcls : Bundle.fit cls = true) (hnames : ∀ n ∈ names, Bundle.fit n = true) (hsoe : (cls == "java/lang/StackOverflowError") = false) (hoom : (cls == "java/lang/OutOfMemoryError") = false) (h : ∀ a ∈ Bundle.messageArmAtoms cls names, a.before args s = true) (hns : ∀ q, A0 q → ∀ cell, s.heap[q]? = some cell → cell.vm.isStatics = false)
    {src dst : Nat} {sp dp n : Int32} {text : String} (htx : txOk text)
    (hw : ∀ (U : State), U.heap = H → s.vm.Alike U.vm → ∀ (E : CtlPost) (acts : List Action), (∀ acts', E (.throwNew cls (some text)) acts' U) → wp (Native.java_lang_System.arraycopy.sem #[.ref src, .int sp, .ref dst, .int dp, .int n]) (fun _ _ _ _ => False) E e false acts U)
    (hsz : ls.size = nL) (hframes : names.length + 5 < R.frames) (hshort : 13 * names.length + 55 ≤ 10240) (hlocals : (rest.map fun v => v.category).sum + 10240 ≤ R.locals) (hRcells : cells + 3 ≤ R.cells) (hRslots : slots + 600 ≤ R.slots) (hS : va_S A0 H0 H locs) (hA : ∀ q, H.size ≤ q → A0 q) (hdg : decode cc pc = .ok (.invokestatic index, 3))
    (kk : ∀ (x : Addr) (H1 : Heap) (locs1 : List Loc) (k : Nat), k ≤ 600 → exc cls s H1 x → H.size ≤ H1.size → (∀ q, q < H.size → ¬ False → H1[q]? = H[q]?) → va_S A0 H0 H1 locs1 → WT p l e R s m args below meth c H1 locs1 (cells + 3) (slots + k) Q (F0 m pc ls rest) x) : W p l e R s m args below meth c H locs cells slots Q (F0 m pc ls (.int n :: .int dp :: .ref dst :: .int sp :: .ref src :: rest)) := by
  intro T0 hT0 X0
  obtain ⟨T, nf, hT, X, n1, n2, n3, hst⟩ := cp_into X0 S hlink hnat hstat hini (Or.inr ⟨_, rfl⟩) (Or.inr ⟨_, rfl⟩) (src := .ref src) (dst := .ref dst) (sp := sp) (dp := dp) (n := n) (cls := cls) (msg := some text) (fun U hU hal E acts hE => hw U (hU.trans hT0) hal E acts hE) hsz (by omega) (Nat.le_trans (Nat.add_le_add_left nfw _) hlocals) hdg
  obtain ⟨U, L, ce, k, XU, hk, hL, hz, ho, hce, hcl, hvm, st⟩ := msgOver (B := 600) X S.1 htr hcls hnames hsoe hoom h (fun y hy cell hc => hns _ (hS.2.2 y hy) cell hc) htx.1 (by decide) htx.2 (F := .native nf :: .java (F0 m pc ls rest) :: below) ⟨[.native nf, .java (F0 m pc ls rest)], rfl⟩ (ovr_native X (hsz.trans S.2.2.1.symm) n1 hframes (by show 2 * 0 + (rest.map fun v => v.category).sum + 10240 ≤ R.locals; omega)) hshort hRcells hRslots
  rw [hT0] at hT
  subst hT
  have hS1 : va_S A0 H0 U.heap (locs ++ L) := hS.made (by omega) ho (fun y hy => hA _ (by rw [hL y hy]; omega))
  obtain ⟨t, a1, b1⟩ := kk (T.heap.size + 2) U.heap (locs ++ L) k hk ⟨ce, hce, hcl, fun k hk => by rw [hvm] at hk; cases hk⟩ (by omega) (fun q h _ => ho q h) hS1 U rfl XU
  refine ⟨t, hst t (st t (nat_leave XU.here ⟨[.java (F0 m pc ls rest)], rfl⟩ n2 n3 ?_)), b1⟩
  rw [← st_push XU]
  exact a1
end CPYW
