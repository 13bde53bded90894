/-! DFLT: a call through an interface that lands in the interface's own body -/
set_option maxRecDepth 100000
/-- the method that is selected: told by the tables alone -/
def DF (C : String) (x y : MethodName) (U : State) : Prop := ∃ (c : ClassId) (r m : MethodId), U.vm.findClass C = some c ∧ U.methodFound? x.cls x.name x.desc = some r ∧ U.methodNamed? y = some m ∧ selectMethod {} U.vm c r = .method m
theorem DF.of {args : Array Value} {s : State} {C : String} {x y : MethodName} (h : (Cond.landsInDefault C x y).before args s = true) : DF C x y s := by
  simp only [Cond.before, Cond.holds, Cond.value] at h
  cases hc : s.vm.findClass C with
  | none => simp [hc] at h
  | some c =>
  cases hr : s.methodFound? x.cls x.name x.desc with
  | none => simp [hc, hr] at h
  | some r =>
  cases hm : s.methodNamed? y with
  | none => simp [hc, hr, hm] at h
  | some m =>
  cases hrm : s.vm.method? r with
  | none => simp [hc, hr, hm, hrm] at h
  | some rm =>
  simp only [hc, hr, hm, hrm, Option.map_some, beq_iff_eq, Option.some.injEq] at h
  split at h
  · rename_i m' hsel
    simp only [Bool.and_eq_true, decide_eq_true_eq] at h
    obtain ⟨⟨⟨⟨e, -⟩, -⟩, -⟩, -⟩ := h
    subst e
    exact ⟨c, r, m', hc, hr, hm, hsel⟩
  · cases h
theorem DF.warm {s U : State} {C : String} {x y : MethodName} (hW : s.WarmedH U.vm) (h : DF C x y s) : DF C x y U := by
  obtain ⟨c, r, m, h1, h2, h3, h4⟩ := h
  have hal := hW.alike
  refine ⟨c, r, m, ?_, ?_, ?_, ?_⟩
  · rw [hal.findClass]; exact h1
  · exact (State.methodFound?_setVm hal _ _ _).trans h2
  · exact (State.methodNamed?_setVm hal y).trans h3
  · rw [hal.selectMethod]; exact h4
/-- the tables with the bodies that are lent -/
def K5 (D : va_G) (dA : Nat → ClassId) (U : State) : Prop := K2 D dA U ∧ DF RX5 yX14_logged yX14_logged U ∧ DF RX6 yX14_logged yX14_logged U
theorem Wm_K5 {D : va_G} {dA : Nat → ClassId} : Wm (K5 D dA) := fun _ _ hW h => ⟨h.1.warm hW, h.2.1.warm hW, h.2.2.warm hW⟩
/-- the contract of a body that is lent -/
def GN (l : Launch) (y : MethodName) (code : ByteArray) (n : Nat) (ret : Option FieldType) (fr lc mc ms : Nat) (Kp : State → Prop) (av : List Value) (Pre : Heap → Prop) (A : Nat → Prop) (post : Option Value → Heap → Prop) : Prop :=
  ∀ (p : Program) (e : Env) (st : State) (mk : MethodId) (bl : List Frame) (methY : Method) (cY : Code), st.methodNamed? y = some mk → st.vm.method? mk = some methY → cY.code = code → cY.maxLocals = n → methY.sig.returnType = ret → methY.locks = false → (∀ w ∈ lw_all, w.before av.toArray st = true) → Kp st → Pre st.heap →
    W p l e ({ frames := fr, cells := mc, slots := ms, locals := lc }) st mk av.toArray bl methY cY st.heap [] 0 0 (GZ bl A post av st mc ms) (entryFrame mk av.toArray n)
theorem GN.of {l : Launch} {y : MethodName} {code : ByteArray} {n : Nat} {ret : Option FieldType} {fr lc mc ms : Nat} {Kp : State → Prop} {av : List Value} {Pre : Heap → Prop} {A : Nat → Prop} {post : Option Value → Heap → Prop} (hav : (lg_sl av).length ≤ n)
    (body : ∀ (p : Program) (e : Env) (s : State) (m : MethodId) (below : List Frame) (meth : Method) (c : Code) (ls : Array Slot), CallFix p m c code n s av.toArray lw_all y.cls → meth.sig.returnType = ret → meth.locks = false → meth.name = y.name → Kp s → Pre s.heap → lv_has ls n (lv_args 0 av) →
      W p l e ({ frames := fr, cells := mc, slots := ms, locals := lc }) s m av.toArray below meth c s.heap [] 0 0 (GZ below A post av s mc ms) (F0 m 0 ls [])) : GN l y code n ret fr lc mc ms Kp av Pre A post := by
  intro p e s m below meth c h1 h2 h3 h4 h5 h6 hts hK hPh
  have hl := lv_entry av (n := n) hav
  rw [lg_entry_eq]
  generalize (lg_sl av ++ List.replicate (n - (lg_sl av).length) Slot.unset).toArray = ls at hl ⊢
  exact body p e s m below meth c ls ⟨by cases p <;> rfl, h3, h4, findClass_of_methodNamed h1, hts⟩ h5 h6 (name_of_methodNamed h1 h2).1 hK hPh hl
section DFLT
variable {p : Program} {l : Launch} {e : Env} {R : Room} {s : State} {m : MethodId} {args : Array Value} {below : List Frame} {meth : Method} {c : Code} {H : Heap} {locs : List Loc} {cells slots : Nat} {Q : State → Prop}
variable {cc : ByteArray} {pc nL : Nat} {ls : Array Slot} {rest : List Value} {D : va_G} {dA : Nat → ClassId} {own : String} {A A0 : Nat → Prop} {H0 : Heap} {post : Option Value → Heap → Prop} {Kp : State → Prop} {mc ms : Nat}
theorem callIFD {T : State} (X : Stand p l e R s m args below meth c T locs cells slots) (hexec : p.tables.exec = Jvm.exec) {own C : String} {index count : Nat} {x y : MethodName}
    (hown : s.vm.findClass own = some m.cls) (hlink : (Cond.methodLink own index x).before args s = true) (hdecl : (Cond.declares x).before args s = true) (hface : (Cond.interfaceMethod x.cls x.cls x.name x.desc).before args s = true)
    (hsel : DF C x y s) (hinst : (Cond.instanceMethod y).before args s = true) (hpub : (Cond.publicMethod y).before args s = true) (hunh : (Cond.unhidden C x.name x.desc).before args s = true)
    (hcast : (Cond.castable C x.cls).before args s = true) (hx : x.cls ≠ "java/lang/invoke/MethodHandle" ∧ x.cls ≠ "java/lang/invoke/VarHandle")
    {W : Nat} {Pre : Pt → Array Value → Prop} {Post : Pt → Array Value → Option Value → Pt → Prop} (hK : Back l R p e below s args y 5 W Pre Post)
    {b : Addr} {cellB : Cell} {kB : Class} (hcell : T.heap[b]? = some cellB) (hobj : cellB.vm.isStatics = false) (hcls : s.vm.findClass C = some cellB.cls) (hkB : s.vm.classes[cellB.cls]? = some kB)
    {g : JFrame} (hg : g.method = m) (hsize : g.locals.size = c.maxLocals) {argsL rest : List Value} (hlen : ∀ sig, parseMethodDescriptor x.desc = some sig → argsL.length = sig.parameters.length)
    (hstack : g.stack = argsL.reverse ++ .ref b :: rest) (hW : 2 * g.monitorRoom + (rest.map fun v => v.category).sum ≤ W) (hdg : decode c.code g.pc = .ok (.invokeinterface index count, 5))
    (hpre : ∀ vm₁, s.WarmedH vm₁ → Pre ⟨T.setVm vm₁, locs, cells, slots⟩ (Value.ref b :: argsL).toArray) :
    ∃ (v : Option Value) (vm₁ : Vm) (B : Pt), s.WarmedH vm₁ ∧ Stand p l e R s m args below meth c B.U B.locs B.cells B.slots ∧ Post ⟨T.setVm vm₁, locs, cells, slots⟩ (Value.ref b :: argsL).toArray v B ∧
      ∀ target, Steps p.tables e below (B.U.setTop { g with pc := g.pc + 5, stack := v.toList ++ rest }) target → Steps p.tables e below (T.setTop g) target := by
  obtain ⟨r0, r, hn, hrm, hstR, hsigR⟩ := Cond.declares_spec hdecl
  obtain ⟨cL, kL, r1, hcL, hkL, hiL, hfoundL, hn1⟩ := Cond.interfaceMethod_spec hface
  cases hn.symm.trans hn1
  have hr0cls : r0.cls = cL := Option.some.inj ((findClass_of_methodNamed hn).symm.trans hcL)
  obtain ⟨hnameR, hdescR⟩ := name_of_methodNamed hn hrm
  obtain ⟨mk, methM, hnamed, hmethM, -, habM⟩ := Cond.instanceMethod_spec hinst
  obtain ⟨c2, r2, m2, q1, q2, q3, q4⟩ := hsel
  cases hcls.symm.trans q1
  cases hfoundL.symm.trans q2
  cases hnamed.symm.trans q3
  have hselP : selectMethod e.platform s.vm cellB.cls r0 = .method mk := by rw [Launch.admits_selectMethod X.admits]; exact q4
  have hpubM : hasFlag methM.accessFlags Acc.public_ = true := Cond.publicMethod_spec hnamed hmethM hpub
  have hway : ((cellB.cls :: s.vm.superclasses cellB.cls).any fun k => (declaredIn s.vm r.name r.desc k).any fun (_, z) => z.isPrivate || z.isStatic) = false := by
    rw [hnameR, hdescR]; exact Cond.unhidden_spec hcls hunh
  obtain ⟨c3, t3, w1, w2, w3⟩ := Cond.castable_spec hcast
  cases hcls.symm.trans w1
  cases hcL.symm.trans w2
  obtain ⟨vm₁, X₁, hstep₁⟩ := X.invokeinterface hexec hown hlink hn hrm hstR (by rw [hr0cls]; exact hkL) hiL hx (a := b) (cell := cellB) (kcell := kB) hcell
    (fun z h => by rw [h] at hobj; cases hobj) hkB (by rw [hr0cls]; exact w3) hselP hmethM hway hpubM habM (g := g) hg (argsL := argsL) (rest := rest) (hlen _ hsigR) hstack hdg
  obtain ⟨v, B, X', hpost, hsteps⟩ := hK m meth c ⟨T.setVm vm₁, locs, cells, slots⟩ { g with stack := rest } (.invokeinterface index count) mk (Value.ref b :: argsL).toArray X₁ hg hsize hdg hW (X₁.named hnamed) (hpre vm₁ X₁.warmed)
  exact ⟨v, vm₁, B, X₁.warmed, X', hpost, fun target h => hstep₁ _ fun acts => by rw [doInvoke_state]; exact hsteps.trans h⟩
variable {y : MethodName} {code : ByteArray} {n index : Nat} {ret : Option FieldType} {fr lc : Nat} {Pre : Heap → Prop} {C : String} {b : Nat}
theorem gc_FD {x : MethodName} {cC : ClassId} {count : Nat} (As : List Value) (nn : Nat) (S : CallFix p m c cc nL s args lw_all own) (hat : ClassAt s C cC) (hDF : DF C x y s) (hFw : va_Fw C x y s) (hKw : Wm Kp) (hK : Kp s) (hS : va_S A0 H0 H locs) (hA : ∀ q, A q → A0 q) (hy : plainName y.cls = true) (hC : GN l y code n ret fr lc mc ms Kp (.ref b :: As) Pre A post)
    (hlink : Cond.methodLink own index x ∈ lw_all) (hinst : Cond.instanceMethod y ∈ lw_all) (hcode : Cond.code y code n ret ∈ lw_all)
    (hd : x.cls ≠ "java/lang/invoke/MethodHandle" ∧ x.cls ≠ "java/lang/invoke/VarHandle" ∧ (parseMethodDescriptor x.desc).map (fun d => d.parameters.length) = some nn) (hn : As.length = nn) (hR : fr + 1 ≤ R.frames ∧ 8 + (n + 11) + lc ≤ R.locals)
    (hrc : ∃ cell : Cell, H[b]? = some cell ∧ cell.vm.isStatics = false ∧ s.vm.findClass C = some cell.cls)
    (hsz : ls.size = nL) (hst : (rest.map fun v => v.category).sum ≤ 8) (hdg : decode cc pc = .ok (.invokeinterface index count, 5)) (hf : cells + mc ≤ R.cells ∧ slots + ms ≤ R.slots) (hPh : Pre H)
    (kk : ∀ (v : Option Value) (H1 : Heap) (locs1 : List Loc), post v H1 → H.size ≤ H1.size → (∀ q, q < H.size → ¬ A q → H1[q]? = H[q]?) → va_S A0 H0 H1 locs1 → W p l e R s m args below meth c H1 locs1 (cells + mc) (slots + ms) Q (F0 m (pc + 5) ls (v.toList ++ rest))) {st : List Value} (hs : st = As.reverse ++ .ref b :: rest) : W p l e R s m args below meth c H locs cells slots Q (F0 m pc ls st) := by
  have hG : GoodIn lw_all (ws_ y code n ret) := lw_meth hcode
  have hBk : Back l R p e below s args y 5 8 (PreOf R mc ms (va_Pc (.ref b :: As) (fun U => Kp U ∧ Pre U.heap))) (PostOf (GQ A post) mc ms A) := by
    refine back_nd (bytes := code) (maxL := n) (ret := ret) hy (fun a' U hW => pay_in S.2.2.2.2 hG _ List.mem_cons_self a' U hW) hR (g_blind hKw) ?_
    intro st mk a bl methY cY hW h1 h2 h3 h4 h5 h6 hp
    obtain ⟨rfl, hp1, hp2⟩ := hp
    exact hC p e st mk bl methY cY h1 h2 h3 h4 h5 h6 (fun w hw => pay_in S.2.2.2.2 hG w (List.mem_cons_of_mem _ hw) _ st hW) hp1 hp2
  obtain ⟨cellB, hcB, hoB, hclB⟩ := hrc
  obtain ⟨hfc, kB, hkB, -⟩ := hat
  cases hfc.symm.trans hclB
  refine g_back5 (rest := rest) (aa := (Value.ref b :: As).toArray) hS hA ?_ kk
  intro T hT X
  obtain ⟨v, vm₁, ⟨U', l2, c2, s2⟩, hW₁, X', ⟨g', mk, t, L, e1, e2, hq, h1, hL, h2, h3⟩, st⟩ := callIFD X S.1 (C := C) S.2.2.2.1 (S.2.2.2.2 _ hlink) (va_any rfl hFw.1) (va_any rfl hFw.2.1) hDF (S.2.2.2.2 _ hinst) (va_any rfl hFw.2.2.1) (va_any rfl hFw.2.2.2.1) (va_any rfl hFw.2.2.2.2) ⟨hd.1, hd.2.1⟩ hBk (by rw [hT]; exact hcB) hoB hclB hkB (g := F0 m pc ls st) rfl (hsz.trans S.2.2.1.symm) (argsL := As) (rest := rest) (fun sig h => by have h2 := hd.2.2; rw [h] at h2; exact hn.trans (Option.some.inj h2).symm) hs (lv_room hst) (by rw [S.2.1]; exact hdg)
    (fun vm₁ hW₁ => ⟨hf.1, hf.2, rfl, hKw _ _ hW₁ hK, by show Pre T.heap; rw [hT]; exact hPh⟩)
  dsimp only [Pt.U, Pt.locs, Pt.cells, Pt.slots] at X' e1 e2 h1 h2 h3 st
  subst h1; subst h2; subst h3
  exact ⟨v, (T.setVm vm₁).calling g' mk (Value.ref b :: As).toArray, t, U', L, hT, X', hL, e1, e2, hq, st⟩
end DFLT
