/-! GCW: contracts of methods with a table of handlers -/
set_option maxRecDepth 100000
def GCW (l : Launch) (y : MethodName) (code : ByteArray) (n : Nat) (ret : Option FieldType) (hh : List (Nat × Nat × Nat × Nat)) (fr lc mc ms : Nat) (Kp : State → Prop) (av : List Value) (Pre : Heap → Prop) (A : Nat → Prop) (post : Option Value → Heap → Prop) : Prop :=
  Met l y (wsW_ y code n ret hh) ({ frames := fr, cells := mc, slots := ms, locals := lc }) (va_Pc av (fun U => Kp U ∧ Pre U.heap)) (GQ A post) mc ms A
def xte (q : Nat × Nat × Nat × Nat) : ExceptionTableEntry := ⟨q.1, q.2.1, q.2.2.1, q.2.2.2⟩
theorem xte_map {t : List ExceptionTableEntry} {hh : List (Nat × Nat × Nat × Nat)} (h : t.map (fun h => (h.startPc, h.endPc, h.handlerPc, h.catchType)) = hh) : t = hh.map xte := by
  rw [← h, List.map_map]
  exact (List.map_id t).symm
theorem GCW.of {l : Launch} {y : MethodName} {code : ByteArray} {n : Nat} {ret : Option FieldType} {hh : List (Nat × Nat × Nat × Nat)} {fr lc mc ms : Nat} {Kp : State → Prop} {av : List Value} {Pre : Heap → Prop} {A : Nat → Prop} {post : Option Value → Heap → Prop} (hy : plainName y.cls = true) (hav : (lg_sl av).length ≤ n)
    (body : ∀ (p : Program) (e : Env) (s : State) (m : MethodId) (below : List Frame) (meth : Method) (c : Code) (ls : Array Slot), CallFix p m c code n s av.toArray lw_all y.cls → meth.sig.returnType = ret → meth.locks = false → c.exceptionTable.toList = hh.map xte → Kp s → Pre s.heap → lv_has ls n (lv_args 0 av) →
      W p l e ({ frames := fr, cells := mc, slots := ms, locals := lc }) s m av.toArray below meth c s.heap [] 0 0 (GZ below A post av s mc ms) (F0 m 0 ls [])) : GCW l y code n ret hh fr lc mc ms Kp av Pre A post := by
  refine va_MetW (cc := code) (maxL := n) (ret := ret) hy rfl ?_
  intro p e s m args below meth c s₁ B hml hv
  obtain ⟨rfl, hK, hPh⟩ := hv
  have hts := atoms_spec (ws := wsW_ y code n ret hh) B.pre
  have hts' : ∀ w ∈ lw_all, w.before av.toArray s = true := fun w h => hts w (List.mem_cons_of_mem _ h)
  have htab : c.exceptionTable.toList = hh.map xte := by
    obtain ⟨m9, meth', c', hn9, h1, h2, -, -, h5, -⟩ := Cond.codeWith_spec (hts _ List.mem_cons_self)
    cases B.named.symm.trans hn9
    cases B.method.symm.trans h1
    have hc : meth.code = some c := (Stand.of_body B).code
    cases hc.symm.trans h2
    exact xte_map h5
  have hl := lv_entry av (n := n) hav
  rw [lg_entry_eq]
  generalize (lg_sl av ++ List.replicate (n - (lg_sl av).length) Slot.unset).toArray = ls at hl ⊢
  exact body p e s m below meth c ls ⟨B.exec, B.bytes, hml, findClass_of_methodNamed B.named, hts'⟩ B.returns B.notSynchronized htab hK hPh hl
section GCWC
variable {p : Program} {l : Launch} {e : Env} {R : Room} {s : State} {m : MethodId} {args : Array Value} {below : List Frame} {meth : Method} {c : Code} {H : Heap} {locs : List Loc} {cells slots : Nat} {Q : State → Prop}
variable {cc : ByteArray} {pc nL : Nat} {ls : Array Slot} {rest : List Value} {own : String} {A A0 : Nat → Prop} {H0 : Heap} {Kp : State → Prop} {mc ms : Nat}
variable {y : MethodName} {code : ByteArray} {n index : Nat} {ret : Option FieldType} {hh : List (Nat × Nat × Nat × Nat)} {fr lc : Nat} {Pre : Heap → Prop} {post : Option Value → Heap → Prop} {C : String} {b : Nat}
/-- a virtual call of a method with handlers -/
theorem gcw_V (As : List Value) (nn : Nat) (S : CallFix p m c cc nL s args lw_all own) (hKw : Wm Kp) (hK : Kp s) (hS : va_S A0 H0 H locs) (hA : ∀ q, A q → A0 q) (hC : GCW l y code n ret hh fr lc mc ms Kp (.ref b :: As) Pre A post)
    (hl : Cond.methodLink own index y ∈ lw_all) (hin : Cond.instanceMethod y ∈ lw_all) (hse : Cond.selects C y y ∈ lw_all) (hini : Cond.initialized y.cls ∈ lw_all) (hcw : Cond.codeWith y code n ret hh ∈ lw_all)
    (hd : y.cls ≠ "java/lang/invoke/MethodHandle" ∧ y.cls ≠ "java/lang/invoke/VarHandle" ∧ (parseMethodDescriptor y.desc).map (fun d => d.parameters.length) = some nn) (hn : As.length = nn) (hR : fr + 1 ≤ R.frames ∧ 8 + (n + 11) + lc ≤ R.locals)
    (hrc : ∃ cell : Cell, H[b]? = some cell ∧ cell.vm.isStatics = false ∧ s.vm.findClass C = some cell.cls)
    (hsz : ls.size = nL) (hst : (rest.map fun v => v.category).sum ≤ 8) (hdg : decode cc pc = .ok (.invokevirtual index, 3)) (hf : cells + mc ≤ R.cells ∧ slots + ms ≤ R.slots) (hPh : Pre H)
    (kk : ∀ (v : Option Value) (H1 : Heap) (locs1 : List Loc), post v H1 → H.size ≤ H1.size → (∀ q, q < H.size → ¬ A q → H1[q]? = H[q]?) → va_S A0 H0 H1 locs1 → W p l e R s m args below meth c H1 locs1 (cells + mc) (slots + ms) Q (F0 m (pc + 3) ls (v.toList ++ rest))) {st : List Value} (hs : st = As.reverse ++ .ref b :: rest) : W p l e R s m args below meth c H locs cells slots Q (F0 m pc ls st) := by
  have hBk : Back l R p e below s args y 3 8 (PreOf R mc ms (va_Pc (.ref b :: As) (fun U => Kp U ∧ Pre U.heap))) (PostOf (GQ A post) mc ms A) := va_backW (hh := hh) (bytes := code) (maxL := n) (ret := ret) hC (g_blind hKw) rfl rfl hR.1 hR.2 (pay_in S.2.2.2.2 (lw_methW hcw)) List.mem_cons_self (fun a' U hW => word_at hW (Or.inl (by first | rfl | simp [Cond.onTables, Cond.keeps, Cond.steady])) (S.2.2.2.2 _ hini))
  refine g_back (rest := rest) (post := post) (aa := (Value.ref b :: As).toArray) hS hA ?_ kk
  obtain ⟨cellB, hcB, hoB, hclB⟩ := hrc
  obtain ⟨mk, methM, hnamed, hmethM, hstM, habM⟩ := Cond.instanceMethod_spec (S.2.2.2.2 _ hin)
  obtain ⟨m9, methM', cM, hn9, hmethM', -, -, -, -, -, -, hsigM⟩ := Cond.codeWith_spec (S.2.2.2.2 _ hcw)
  cases hnamed.symm.trans hn9
  cases hmethM.symm.trans hmethM'
  obtain ⟨c2, r2, m2, q1, q2, q3, q4, kP, hkP, hkPi⟩ := Cond.selects_spec (S.2.2.2.2 _ hse)
  cases hclB.symm.trans q1
  cases (State.methodFound?_of_named hnamed ⟨hd.1, hd.2.1⟩).symm.trans q2
  cases hnamed.symm.trans q3
  have hlen : As.length = methM.sig.parameters.length := by
    have h2 := hd.2.2
    rw [hsigM] at h2
    exact hn.trans (Option.some.inj h2).symm
  intro T hT X
  have hselP : selectMethod e.platform s.vm cellB.cls mk = .method mk := by rw [Launch.admits_selectMethod X.admits]; exact q4
  obtain ⟨vm₁, X₁, hstep₁⟩ := X.invokevirtual S.1 S.2.2.2.1 (S.2.2.2.2 _ hl) hnamed hmethM hstM hkP hkPi ⟨hd.1, hd.2.1⟩ (a := b) (cell := cellB) (by rw [hT]; exact hcB)
    (fun z h => by rw [h] at hoB; cases hoB) hselP hmethM habM hkP hkPi (g := F0 m pc ls st) rfl (argsL := As) (rest := rest) hlen hs (by rw [S.2.1]; exact hdg)
  obtain ⟨v, ⟨U', l2, c2, s2⟩, X', ⟨g', mk', t, L, e1, e2, hq, h1, hL, h2, h3⟩, hsteps⟩ := hBk m meth c ⟨T.setVm vm₁, locs, cells, slots⟩ { (F0 m pc ls st) with stack := rest } (.invokevirtual index) mk (Value.ref b :: As).toArray X₁ rfl (hsz.trans S.2.2.1.symm) (by rw [S.2.1]; exact hdg) (lv_room hst) (X₁.named hnamed) ⟨hf.1, hf.2, rfl, hKw _ _ X₁.warmed hK, by show Pre T.heap; rw [hT]; exact hPh⟩
  dsimp only [Pt.U, Pt.locs, Pt.cells, Pt.slots] at X' e1 e2 h1 h2 h3 hsteps
  subst h1; subst h2; subst h3
  exact ⟨v, (T.setVm vm₁).calling g' mk' (Value.ref b :: As).toArray, t, U', L, hT, X', hL, e1, e2, hq, fun target h => hstep₁ _ fun acts => by rw [doInvoke_state]; exact hsteps.trans h⟩
/-- the same, of a method that an upper class has -/
theorem gcw_U {x : MethodName} {owner : String} (As : List Value) (nn : Nat) (S : CallFix p m c cc nL s args lw_all own) (hKw : Wm Kp) (hK : Kp s) (hS : va_S A0 H0 H locs) (hA : ∀ q, A q → A0 q) (hC : GCW l y code n ret hh fr lc mc ms Kp (.ref b :: As) Pre A post)
    (hl : Cond.methodLink own index x ∈ lw_all) (hsm : Cond.sameMethod x.cls owner x.name x.desc ∈ lw_all) (hse : Cond.selects C x y ∈ lw_all) (hin : Cond.instanceMethod y ∈ lw_all) (hini : Cond.initialized y.cls ∈ lw_all) (hcw : Cond.codeWith y code n ret hh ∈ lw_all) (hdl : va_Decl s ⟨owner, x.name, x.desc⟩)
    (hd : owner ≠ "java/lang/invoke/MethodHandle" ∧ owner ≠ "java/lang/invoke/VarHandle" ∧ (parseMethodDescriptor x.desc).map (fun d => d.parameters.length) = some nn) (hn : As.length = nn) (hR : fr + 1 ≤ R.frames ∧ 8 + (n + 11) + lc ≤ R.locals)
    (hrc : ∃ cell : Cell, H[b]? = some cell ∧ cell.vm.isStatics = false ∧ s.vm.findClass C = some cell.cls)
    (hsz : ls.size = nL) (hst : (rest.map fun v => v.category).sum ≤ 8) (hdg : decode cc pc = .ok (.invokevirtual index, 3)) (hf : cells + mc ≤ R.cells ∧ slots + ms ≤ R.slots) (hPh : Pre H)
    (kk : ∀ (v : Option Value) (H1 : Heap) (locs1 : List Loc), post v H1 → H.size ≤ H1.size → (∀ q, q < H.size → ¬ A q → H1[q]? = H[q]?) → va_S A0 H0 H1 locs1 → W p l e R s m args below meth c H1 locs1 (cells + mc) (slots + ms) Q (F0 m (pc + 3) ls (v.toList ++ rest))) {st : List Value} (hs : st = As.reverse ++ .ref b :: rest) : W p l e R s m args below meth c H locs cells slots Q (F0 m pc ls st) := by
  have hBk : Back l R p e below s args y 3 8 (PreOf R mc ms (va_Pc (.ref b :: As) (fun U => Kp U ∧ Pre U.heap))) (PostOf (GQ A post) mc ms A) := va_backW (hh := hh) (bytes := code) (maxL := n) (ret := ret) hC (g_blind hKw) rfl rfl hR.1 hR.2 (pay_in S.2.2.2.2 (lw_methW hcw)) List.mem_cons_self (fun a' U hW => word_at hW (Or.inl (by first | rfl | simp [Cond.onTables, Cond.keeps, Cond.steady])) (S.2.2.2.2 _ hini))
  refine g_back (rest := rest) (post := post) (aa := (Value.ref b :: As).toArray) hS hA ?_ kk
  obtain ⟨cellB, hcB, hoB, hclB⟩ := hrc
  obtain ⟨r0, r, hn0, hrm, hstR, hsigR⟩ := hdl
  obtain ⟨cn, ck, r1, hcn, hck, hni, hf0, hn1⟩ := Cond.sameMethod_found (S.2.2.2.2 _ hsm)
  cases hn0.symm.trans hn1
  obtain ⟨mk, methM, hnamed, hmethM, -, habM⟩ := Cond.instanceMethod_spec (S.2.2.2.2 _ hin)
  obtain ⟨c2, r2, m2, q1, q2, q3, q4, kP, hkP, hkPi⟩ := Cond.selects_spec (S.2.2.2.2 _ hse)
  cases hclB.symm.trans q1
  cases hf0.symm.trans q2
  cases hnamed.symm.trans q3
  have hlen : As.length = r.sig.parameters.length := by
    have h2 := hd.2.2
    rw [hsigR] at h2
    exact hn.trans (Option.some.inj h2).symm
  intro T hT X
  have hselP : selectMethod e.platform s.vm cellB.cls r0 = .method mk := by rw [Launch.admits_selectMethod X.admits]; exact q4
  obtain ⟨vm₁, X₁, hstep₁⟩ := X.invokevirtualUp S.1 S.2.2.2.1 (S.2.2.2.2 _ hl) (S.2.2.2.2 _ hsm) ⟨hd.1, hd.2.1⟩ hn0 hrm hstR (a := b) (cell := cellB) (by rw [hT]; exact hcB)
    (fun z h => by rw [h] at hoB; cases hoB) hselP hmethM habM hkP hkPi (g := F0 m pc ls st) rfl (argsL := As) (rest := rest) hlen hs (by rw [S.2.1]; exact hdg)
  obtain ⟨v, ⟨U', l2, c2, s2⟩, X', ⟨g', mk', t, L, e1, e2, hq, h1, hL, h2, h3⟩, hsteps⟩ := hBk m meth c ⟨T.setVm vm₁, locs, cells, slots⟩ { (F0 m pc ls st) with stack := rest } (.invokevirtual index) mk (Value.ref b :: As).toArray X₁ rfl (hsz.trans S.2.2.1.symm) (by rw [S.2.1]; exact hdg) (lv_room hst) (X₁.named hnamed) ⟨hf.1, hf.2, rfl, hKw _ _ X₁.warmed hK, by show Pre T.heap; rw [hT]; exact hPh⟩
  dsimp only [Pt.U, Pt.locs, Pt.cells, Pt.slots] at X' e1 e2 h1 h2 h3 hsteps
  subst h1; subst h2; subst h3
  exact ⟨v, (T.setVm vm₁).calling g' mk' (Value.ref b :: As).toArray, t, U', L, hT, X', hL, e1, e2, hq, fun target h => hstep₁ _ fun acts => by rw [doInvoke_state]; exact hsteps.trans h⟩
end GCWC
