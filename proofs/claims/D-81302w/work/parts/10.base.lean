/-! BASE: the classes and array classes of our pictures; contracts of methods that change nothing (RC); their calls -/
set_option maxRecDepth 100000
/-- the classes whose objects lie in our pictures -/
abbrev vwCl : List vw_C := [(RX0, TX0, 15), (RX1, TX1, 30), (RJ2, TJ2, 3), (RX5, TX5, 8), (RX6, TX6, 9), (RX7, TX7, 10), (RX11, TX11, 1), (RX4, TX4, 4), (RX3, TX3, 6), (RX12, TX12, 7), (RX13, TX13, 4), (RX9, TX9, 2), (RX10, TX10, 3)]
/-- the array classes -/
abbrev tyL (dA : Nat → ClassId) : List (ClassId × FieldType) := [(dA 0, .int), (dA 1, .long), (dA 2, .byte), (dA 3, .short), (dA 4, .object "CallRounds$Sheet"), (dA 5, .object "java/lang/Object")]
/-- a truth value as the machine has it -/
def b2i (b : Bool) : Int32 := if b then 1 else 0
theorem b2i_t : b2i true = 1 := rfl
theorem b2i_f : b2i false = 0 := rfl
theorem b2i_d {p : Prop} [Decidable p] (h : p) : (1 : Int32) = b2i (decide p) := by simp [b2i, h]
theorem b2i_nd {p : Prop} [Decidable p] (h : ¬ p) : (0 : Int32) = b2i (decide p) := by simp [b2i, h]
theorem b2i_ne0 {b : Bool} : ¬ b2i b = 0 ↔ b = true := by cases b <;> decide
theorem b2i_eq0 {b : Bool} : b2i b = 0 ↔ b = false := by cases b <;> decide
theorem b2i_eq1 {b : Bool} : b2i b = 1 ↔ b = true := by cases b <;> decide
theorem b2i_nar (b : Bool) : narrow .boolean (.int (b2i b)) = .int (b2i b) := by cases b <;> decide
/-- what a method that changes nothing ends with -/
abbrev RQ (post : Option Value → Prop) : Array Value → State → Outcome → State → Prop := fun _ st o t => (∃ v, o = .returned v ∧ post v) ∧ t.heap = st.heap
/-- a contract of a method that changes nothing: Ph is what it reads of the heap -/
def RC (l : Launch) (y : MethodName) (code : ByteArray) (n : Nat) (ret : Option FieldType) (fr lc : Nat) (D : va_G) (dA : Nat → ClassId) (av : List Value) (Ph : Heap → Prop) (post : Option Value → Prop) : Prop :=
  Met l y (ws_ y code n ret) ({ frames := fr, cells := 0, slots := 0, locals := lc }) (va_Pc av (fun U => va_K D vwCl (tyL dA) U ∧ Ph U.heap)) (RQ post) 0 0 (fun _ => False)
abbrev RZ (below : List Frame) (post : Option Value → Prop) (av : List Value) (s : State) : State → Prop := MQ below (RQ post) av.toArray s 0 0 (fun _ => False)
theorem RC.of {l : Launch} {y : MethodName} {code : ByteArray} {n : Nat} {ret : Option FieldType} {fr lc : Nat} {D : va_G} {dA : Nat → ClassId} {av : List Value} {Ph : Heap → Prop} {post : Option Value → Prop} (hy : plainName y.cls = true) (hav : (lg_sl av).length ≤ n)
    (body : ∀ (p : Program) (e : Env) (s : State) (m : MethodId) (below : List Frame) (meth : Method) (c : Code) (ls : Array Slot), CallFix p m c code n s av.toArray lw_all y.cls → meth.sig.returnType = ret → meth.locks = false → va_K D vwCl (tyL dA) s → Ph s.heap → lv_has ls n (lv_args 0 av) →
      W p l e ({ frames := fr, cells := 0, slots := 0, locals := lc }) s m av.toArray below meth c s.heap [] 0 0 (RZ below post av s) (F0 m 0 ls [])) : RC l y code n ret fr lc D dA av Ph post := by
  refine Met.ofW (cc := code) (maxL := n) (ret := ret) hy rfl ?_
  intro p e s m args below meth c s₁ B hml hv
  obtain ⟨rfl, hK, hPh⟩ := hv
  have hts := atoms_spec (ws := ws_ y code n ret) B.pre
  have hts' : ∀ w ∈ lw_all, w.before av.toArray s = true := fun w h => hts w (List.mem_cons_of_mem _ h)
  have hl := lv_entry av (n := n) hav
  rw [lg_entry_eq]
  generalize (lg_sl av ++ List.replicate (n - (lg_sl av).length) Slot.unset).toArray = ls at hl ⊢
  exact body p e s m below meth c ls ⟨B.exec, B.bytes, hml, findClass_of_methodNamed B.named, hts'⟩ B.returns B.notSynchronized hK hPh hl
section RCR
variable {p : Program} {l : Launch} {e : Env} {R : Room} {s : State} {m : MethodId} {args : Array Value} {below : List Frame} {meth : Method} {c : Code} {H : Heap} {locs : List Loc} {cells slots : Nat} {Q : State → Prop}
variable {cc : ByteArray} {pc nL : Nat} {ls : Array Slot} {rest : List Value} {D : va_G} {dA : Nat → ClassId} {Ts : List Cond} {own : String} {av : List Value} {post : Option Value → Prop}
theorem r_iret (S : CallFix p m c cc nL s args Ts own) (hr : meth.sig.returnType = some .int) (hlk : meth.locks = false) (hdg : decode cc pc = .ok (.ireturn, 1)) {v : Int32} (hq : post (some (.int v))) :
    W p l e R s m av.toArray below meth c s.heap [] 0 0 (RZ below post av s) (F0 m pc ls [.int v]) :=
  W.iret S.1 S.2.1 hr (fun t ht _ => ⟨⟨_, rfl, hq⟩, ht⟩) (fun q h => by cases h) hdg hlk
theorem r_zret (S : CallFix p m c cc nL s args Ts own) (hr : meth.sig.returnType = some .boolean) (hlk : meth.locks = false) (hdg : decode cc pc = .ok (.ireturn, 1)) {v : Int32} (hn : narrow .boolean (.int v) = .int v) (hq : post (some (.int v))) :
    W p l e R s m av.toArray below meth c s.heap [] 0 0 (RZ below post av s) (F0 m pc ls [.int v]) :=
  W.zret S.1 S.2.1 hr hn (fun t ht _ => ⟨⟨_, rfl, hq⟩, ht⟩) (fun q h => by cases h) hdg hlk
theorem r_lret (S : CallFix p m c cc nL s args Ts own) (hr : meth.sig.returnType = some .long) (hlk : meth.locks = false) (hdg : decode cc pc = .ok (.lreturn, 1)) {v : Int64} (hq : post (some (.long v))) :
    W p l e R s m av.toArray below meth c s.heap [] 0 0 (RZ below post av s) (F0 m pc ls [.long v]) :=
  W.lret S.1 S.2.1 hr (fun t ht _ => ⟨⟨_, rfl, hq⟩, ht⟩) (fun q h => by cases h) hdg hlk
theorem r_aret (S : CallFix p m c cc nL s args Ts own) {rt : FieldType} (hr : meth.sig.returnType = some rt) (hrt : (∃ n, rt = .object n) ∨ ∃ t, rt = .array t) (hlk : meth.locks = false) (hdg : decode cc pc = .ok (.areturn, 1)) {v : Value} (hv : v = .null ∨ ∃ a, v = .ref a) (hq : post (some v)) :
    W p l e R s m av.toArray below meth c s.heap [] 0 0 (RZ below post av s) (F0 m pc ls [v]) :=
  W.aret S.1 S.2.1 hr hrt hv (fun t ht _ => ⟨⟨_, rfl, hq⟩, ht⟩) (fun q h => by cases h) hdg hlk
/-- behind the call of a method that changes nothing -/
theorem r_back {g : JFrame} {rest : List Value} {a : Array Value} (hr : va_Run p l e R s m args below meth c H locs cells slots 0 0 g rest (RQ post a) (fun _ => False))
    (kk : ∀ v, post v → W p l e R s m args below meth c H locs cells slots Q ({ g with pc := g.pc + 3, stack := v.toList ++ rest })) : W p l e R s m args below meth c H locs cells slots Q g := by
  intro T hT X
  obtain ⟨v, st₀, t, T', L, e1, X', hL, e2, e3, ⟨⟨v', hv', hp⟩, hh⟩, go⟩ := hr T hT X
  cases hv'
  have hL0 : L = [] := List.eq_nil_iff_forall_not_mem.mpr (fun q hq => hL q hq)
  subst hL0
  rw [List.append_nil] at X'
  obtain ⟨t2, a1, b1⟩ := kk v hp T' (by rw [e2, hh, e1]) X'
  exact ⟨t2, go t2 a1, b1⟩
theorem rc_blind {Ph : Heap → Prop} {As : List Value} : FrameBlind (va_Pc As (fun U => va_K D vwCl (tyL dA) U ∧ Ph U.heap)) := by
  intro a U g mk q
  obtain ⟨q0, qK, qP⟩ := q
  exact ⟨q0, va_K.moved (u := U) (U := U.calling g mk a) (Vm.Alike.refl U.vm) qK, qP⟩
/-- a static call -/
theorem rc_S {y : MethodName} {code : ByteArray} {n index : Nat} {ret : Option FieldType} {fr lc : Nat} {Ph : Heap → Prop} (As : List Value) (nn : Nat) (S : CallFix p m c cc nL s args lw_all own) (hK : va_K D vwCl (tyL dA) s) (hC : RC l y code n ret fr lc D dA As Ph post)
    (hw : GoodIn lw_all (va_wsS own index y (ws_ y code n ret))) (hd : y.cls ≠ "java/lang/invoke/MethodHandle" ∧ y.cls ≠ "java/lang/invoke/VarHandle" ∧ (parseMethodDescriptor y.desc).map (fun d => d.parameters.length) = some nn) (hn : As.length = nn) (hR : fr + 1 ≤ R.frames ∧ 8 + (n + 11) + lc ≤ R.locals)
    (hsz : ls.size = nL) (hst : (rest.map fun v => v.category).sum ≤ 8) (hdg : decode cc pc = .ok (.invokestatic index, 3)) (hf : cells ≤ R.cells ∧ slots ≤ R.slots) (hPh : Ph H)
    (kk : ∀ v, post v → W p l e R s m args below meth c H locs cells slots Q (F0 m (pc + 3) ls (v.toList ++ rest))) {st : List Value} (hs : st = As.reverse ++ rest) : W p l e R s m args below meth c H locs cells slots Q (F0 m pc ls st) :=
  r_back (rest := rest) (va_runS (As := As) (rest := rest) S hC (va_cwS nn S.2.2.2.2 hw rfl rfl rfl hd hR) ⟨rc_blind, fun U hU hW => ⟨rfl, va_K.moved hW.alike hK, by rw [hU]; exact hPh⟩⟩ rfl hn hsz hs (lv_room hst) hdg hf) kk
/-- a call through an object of the class C that declares the method -/
theorem rc_V {y : MethodName} {code : ByteArray} {n index : Nat} {ret : Option FieldType} {fr lc : Nat} {Ph : Heap → Prop} {C : String} {b : Nat} (As : List Value) (nn : Nat) (S : CallFix p m c cc nL s args lw_all own) (hK : va_K D vwCl (tyL dA) s) (hC : RC l y code n ret fr lc D dA (.ref b :: As) Ph post)
    (hw : GoodIn lw_all (wsV own index C y (ws_ y code n ret))) (hd : y.cls = C ∧ y.cls ≠ "java/lang/invoke/MethodHandle" ∧ y.cls ≠ "java/lang/invoke/VarHandle" ∧ (parseMethodDescriptor y.desc).map (fun d => d.parameters.length) = some nn) (hn : As.length = nn) (hR : fr + 1 ≤ R.frames ∧ 8 + (n + 11) + lc ≤ R.locals)
    (hrc : ∃ cell : Cell, H[b]? = some cell ∧ cell.vm.isStatics = false ∧ s.vm.findClass C = some cell.cls)
    (hsz : ls.size = nL) (hst : (rest.map fun v => v.category).sum ≤ 8) (hdg : decode cc pc = .ok (.invokevirtual index, 3)) (hf : cells ≤ R.cells ∧ slots ≤ R.slots) (hPh : Ph H)
    (kk : ∀ v, post v → W p l e R s m args below meth c H locs cells slots Q (F0 m (pc + 3) ls (v.toList ++ rest))) {st : List Value} (hs : st = As.reverse ++ .ref b :: rest) : W p l e R s m args below meth c H locs cells slots Q (F0 m pc ls st) :=
  r_back (rest := rest) (va_runV (As := As) (rest := rest) S hC (cwV nn S.2.2.2.2 hw rfl rfl rfl hd hR) ⟨rc_blind, hrc, fun U hU hW => ⟨rfl, va_K.moved hW.alike hK, by rw [hU]; exact hPh⟩⟩ rfl hn hsz hs (lv_room hst) hdg hf) kk
end RCR
