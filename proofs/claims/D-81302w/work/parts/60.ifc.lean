/-! IFC: calls through interfaces; contracts whose premise has FX too (RC2); the list's object as a cell -/
set_option maxRecDepth 100000
def K2 (D : va_G) (dA : Nat → ClassId) (U : State) : Prop := va_K D vwCl (tyL dA) U ∧ FX U
theorem K2.warm {D : va_G} {dA : Nat → ClassId} {s U : State} (hW : s.WarmedH U.vm) (h : K2 D dA s) : K2 D dA U := ⟨va_K.moved hW.alike h.1, h.2.warm hW⟩
/-- a contract of a method that changes nothing, with FX -/
def RC2 (l : Launch) (y : MethodName) (code : ByteArray) (n : Nat) (ret : Option FieldType) (fr lc : Nat) (D : va_G) (dA : Nat → ClassId) (av : List Value) (Ph : Heap → Prop) (post : Option Value → Prop) : Prop :=
  Met l y (ws_ y code n ret) ({ frames := fr, cells := 0, slots := 0, locals := lc }) (va_Pc av (fun U => K2 D dA U ∧ Ph U.heap)) (RQ post) 0 0 (fun _ => False)
theorem RC2.of {l : Launch} {y : MethodName} {code : ByteArray} {n : Nat} {ret : Option FieldType} {fr lc : Nat} {D : va_G} {dA : Nat → ClassId} {av : List Value} {Ph : Heap → Prop} {post : Option Value → Prop} (hy : plainName y.cls = true) (hav : (lg_sl av).length ≤ n)
    (body : ∀ (p : Program) (e : Env) (s : State) (m : MethodId) (below : List Frame) (meth : Method) (c : Code) (ls : Array Slot), CallFix p m c code n s av.toArray lw_all y.cls → meth.sig.returnType = ret → meth.locks = false → K2 D dA s → Ph s.heap → lv_has ls n (lv_args 0 av) →
      W p l e ({ frames := fr, cells := 0, slots := 0, locals := lc }) s m av.toArray below meth c s.heap [] 0 0 (RZ below post av s) (F0 m 0 ls [])) : RC2 l y code n ret fr lc D dA av Ph post := by
  refine Met.ofW (cc := code) (maxL := n) (ret := ret) hy rfl ?_
  intro p e s m args below meth c s₁ B hml hv
  obtain ⟨rfl, hK, hPh⟩ := hv
  have hts := atoms_spec (ws := ws_ y code n ret) B.pre
  have hts' : ∀ w ∈ lw_all, w.before av.toArray s = true := fun w h => hts w (List.mem_cons_of_mem _ h)
  have hl := lv_entry av (n := n) hav
  rw [lg_entry_eq]
  generalize (lg_sl av ++ List.replicate (n - (lg_sl av).length) Slot.unset).toArray = ls at hl ⊢
  exact body p e s m below meth c ls ⟨B.exec, B.bytes, hml, findClass_of_methodNamed B.named, hts'⟩ B.returns B.notSynchronized hK hPh hl
/-- what a call through an interface asks -/
theorem lw_F {own : String} {idx : Nat} {C : String} {x y : MethodName} {b : ByteArray} {L : Nat} {r : Option FieldType} (h1 : Cond.methodLink own idx x ∈ lw_all) (h2 : Cond.selects C x y ∈ lw_all) (h3 : Cond.instanceMethod y ∈ lw_all) (h4 : Cond.initialized y.cls ∈ lw_all) (h5 : Cond.code y b L r ∈ lw_all) : GoodIn lw_all (va_wsF own idx C x y (ws_ y b L r)) := by
  refine lw_app ?_ (lw_meth h5)
  intro w hw
  simp only [List.mem_cons, List.not_mem_nil, or_false] at hw
  rcases hw with e | e | e | e
  · rw [e]; exact h1
  · rw [e]; exact h2
  · rw [e]; exact h3
  · rw [e]; exact h4
section IFC
variable {p : Program} {l : Launch} {e : Env} {R : Room} {s : State} {m : MethodId} {args : Array Value} {below : List Frame} {meth : Method} {c : Code} {H : Heap} {locs : List Loc} {cells slots : Nat} {Q : State → Prop}
variable {cc : ByteArray} {pc nL : Nat} {ls : Array Slot} {rest : List Value} {D : va_G} {dA : Nat → ClassId} {own : String} {post : Option Value → Prop}
theorem rc2_blind {Ph : Heap → Prop} {As : List Value} : FrameBlind (va_Pc As (fun U => K2 D dA U ∧ Ph U.heap)) := by
  intro a U g mk q
  obtain ⟨q0, qK, qP⟩ := q
  exact ⟨q0, ⟨va_K.moved (u := U) (U := U.calling g mk a) (Vm.Alike.refl U.vm) qK.1, FX.same (s := U) (U := U.calling g mk a) rfl qK.2⟩, qP⟩
theorem r_back5 {g : JFrame} {rest : List Value} {a : Array Value} (hr : va_Run5 p l e R s m args below meth c H locs cells slots 0 0 g rest (RQ post a) (fun _ => False))
    (kk : ∀ v, post v → W p l e R s m args below meth c H locs cells slots Q ({ g with pc := g.pc + 5, stack := v.toList ++ rest })) : W p l e R s m args below meth c H locs cells slots Q g := by
  intro T hT X
  obtain ⟨v, st₀, t, T', L, e1, X', hL, e2, e3, ⟨⟨v', hv', hp⟩, hh⟩, go⟩ := hr T hT X
  cases hv'
  have hL0 : L = [] := List.eq_nil_iff_forall_not_mem.mpr (fun q hq => hL q hq)
  subst hL0
  rw [List.append_nil] at X'
  obtain ⟨t2, a1, b1⟩ := kk v hp T' (by rw [e2, hh, e1]) X'
  exact ⟨t2, go t2 a1, b1⟩
/-- a method that changes nothing, called through an interface -/
theorem rc_F {x y : MethodName} {code : ByteArray} {n index count : Nat} {ret : Option FieldType} {fr lc : Nat} {Ph : Heap → Prop} {C : String} {cC : ClassId} {b : Nat} (As : List Value) (nn : Nat) (S : CallFix p m c cc nL s args lw_all own) (hK : va_K D vwCl (tyL dA) s) (hat : ClassAt s C cC) (hF : va_Fw C x y s) (hC : RC l y code n ret fr lc D dA (.ref b :: As) Ph post)
    (hw : GoodIn lw_all (va_wsF own index C x y (ws_ y code n ret))) (hd : x.cls ≠ "java/lang/invoke/MethodHandle" ∧ x.cls ≠ "java/lang/invoke/VarHandle" ∧ (parseMethodDescriptor x.desc).map (fun d => d.parameters.length) = some nn) (hn : As.length = nn) (hR : fr + 1 ≤ R.frames ∧ 8 + (n + 11) + lc ≤ R.locals)
    (hrc : ∃ cell : Cell, H[b]? = some cell ∧ cell.vm.isStatics = false ∧ s.vm.findClass C = some cell.cls)
    (hsz : ls.size = nL) (hst : (rest.map fun v => v.category).sum ≤ 8) (hdg : decode cc pc = .ok (.invokeinterface index count, 5)) (hf : cells ≤ R.cells ∧ slots ≤ R.slots) (hPh : Ph H)
    (kk : ∀ v, post v → W p l e R s m args below meth c H locs cells slots Q (F0 m (pc + 5) ls (v.toList ++ rest))) {st : List Value} (hs : st = As.reverse ++ .ref b :: rest) : W p l e R s m args below meth c H locs cells slots Q (F0 m pc ls st) :=
  r_back5 (rest := rest) (va_runF (As := As) (rest := rest) hat S hC (va_cwF nn S.2.2.2.2 hw rfl rfl rfl hF hd hR) ⟨rc_blind, hrc, fun U hU hW => ⟨rfl, va_K.moved hW.alike hK, by rw [hU]; exact hPh⟩⟩ rfl hn hsz hs (lv_room hst) hdg hf) kk
/-- a method with FX that changes nothing: a static call, a call through an object -/
theorem rc2_S {y : MethodName} {code : ByteArray} {n index : Nat} {ret : Option FieldType} {fr lc : Nat} {Ph : Heap → Prop} (As : List Value) (nn : Nat) (S : CallFix p m c cc nL s args lw_all own) (hK : K2 D dA s) (hC : RC2 l y code n ret fr lc D dA As Ph post)
    (hw : GoodIn lw_all (va_wsS own index y (ws_ y code n ret))) (hd : y.cls ≠ "java/lang/invoke/MethodHandle" ∧ y.cls ≠ "java/lang/invoke/VarHandle" ∧ (parseMethodDescriptor y.desc).map (fun d => d.parameters.length) = some nn) (hn : As.length = nn) (hR : fr + 1 ≤ R.frames ∧ 8 + (n + 11) + lc ≤ R.locals)
    (hsz : ls.size = nL) (hst : (rest.map fun v => v.category).sum ≤ 8) (hdg : decode cc pc = .ok (.invokestatic index, 3)) (hf : cells ≤ R.cells ∧ slots ≤ R.slots) (hPh : Ph H)
    (kk : ∀ v, post v → W p l e R s m args below meth c H locs cells slots Q (F0 m (pc + 3) ls (v.toList ++ rest))) {st : List Value} (hs : st = As.reverse ++ rest) : W p l e R s m args below meth c H locs cells slots Q (F0 m pc ls st) :=
  r_back (rest := rest) (va_runS (As := As) (rest := rest) S hC (va_cwS nn S.2.2.2.2 hw rfl rfl rfl hd hR) ⟨rc2_blind, fun U hU hW => ⟨rfl, hK.warm hW, by rw [hU]; exact hPh⟩⟩ rfl hn hsz hs (lv_room hst) hdg hf) kk
theorem rc2_V {y : MethodName} {code : ByteArray} {n index : Nat} {ret : Option FieldType} {fr lc : Nat} {Ph : Heap → Prop} {C : String} {b : Nat} (As : List Value) (nn : Nat) (S : CallFix p m c cc nL s args lw_all own) (hK : K2 D dA s) (hC : RC2 l y code n ret fr lc D dA (.ref b :: As) Ph post)
    (hw : GoodIn lw_all (wsV own index C y (ws_ y code n ret))) (hd : y.cls = C ∧ y.cls ≠ "java/lang/invoke/MethodHandle" ∧ y.cls ≠ "java/lang/invoke/VarHandle" ∧ (parseMethodDescriptor y.desc).map (fun d => d.parameters.length) = some nn) (hn : As.length = nn) (hR : fr + 1 ≤ R.frames ∧ 8 + (n + 11) + lc ≤ R.locals)
    (hrc : ∃ cell : Cell, H[b]? = some cell ∧ cell.vm.isStatics = false ∧ s.vm.findClass C = some cell.cls)
    (hsz : ls.size = nL) (hst : (rest.map fun v => v.category).sum ≤ 8) (hdg : decode cc pc = .ok (.invokevirtual index, 3)) (hf : cells ≤ R.cells ∧ slots ≤ R.slots) (hPh : Ph H)
    (kk : ∀ v, post v → W p l e R s m args below meth c H locs cells slots Q (F0 m (pc + 3) ls (v.toList ++ rest))) {st : List Value} (hs : st = As.reverse ++ .ref b :: rest) : W p l e R s m args below meth c H locs cells slots Q (F0 m pc ls st) :=
  r_back (rest := rest) (va_runV (As := As) (rest := rest) S hC (cwV nn S.2.2.2.2 hw rfl rfl rfl hd hR) ⟨rc2_blind, hrc, fun U hU hW => ⟨rfl, hK.warm hW, by rw [hU]; exact hPh⟩⟩ rfl hn hsz hs (lv_room hst) hdg hf) kk
/-- a field of a list's object -/
theorem l_get (S : CallFix p m c cc nL s args lw_all RJ2) (hK : va_K D vwCl (tyL dA) s) {b : Nat} {fs : List Value} {ws : va_W} (hP : va_P D vwCl ws H) (q0 : Nat) (he : ws[q0]? = some (b, .inr (2, fs))) (k : Nat) (hk : k < 3) {index : Nat} (hlink : Cond.fieldLink RJ2 index RJ2 (TJ2 k).2.1 (TJ2 k).2.2.1 ∈ lw_all) (hf : (TJ2 k).1 = RJ2) (hdg : decode cc pc = .ok (.getfield index, 3))
    {v : Value} (hv : fs[k]? = some v) (kk : W p l e R s m args below meth c H locs cells slots Q (F0 m (pc + 3) ls (v :: rest))) : W p l e R s m args below meth c H locs cells slots Q (F0 m pc ls (.ref b :: rest)) :=
  va_get (D := D) (ci := 2) (C := RJ2) (T := TJ2) (N := 3) S.1 S.2.1 S.2.2.2.2 in_J2 S.2.2.2.1 hK hP q0 he rfl k hk (S.2.2.2.2 _ hlink) (fun _ h9 => by rw [hf] at h9; exact h9) hv hdg kk
end IFC
/-- the list: its object; its array, if it has one of its own (cap is not 0), of which the first nc are rings -/
def LW (dA : Nat → ClassId) (b ed cap : Nat) (mc : Int32) (nc : Nat) (f : Nat → Option Nat) : va_W := (b, .inr (2, [.int mc, .ref ed, .int (nI nc)])) :: (if cap = 0 then [] else [(ed, .inl (dA 5, cap, .inr (.inr (.inr (.inr f)))))])
theorem LW_1 {dA : Nat → ClassId} {b ed cap : Nat} {mc : Int32} {nc : Nat} {f : Nat → Option Nat} (h : 0 < cap) : (LW dA b ed cap mc nc f)[1]? = some (ed, .inl (dA 5, cap, .inr (.inr (.inr (.inr f))))) := by
  unfold LW
  rw [if_neg (by omega)]; rfl
theorem LW_c {dA : Nat → ClassId} {b ed cap : Nat} {mc : Int32} {nc : Nat} {f : Nat → Option Nat} (h : 0 < cap) : LW dA b ed cap mc nc f = [(b, .inr (2, [.int mc, .ref ed, .int (nI nc)])), (ed, .inl (dA 5, cap, .inr (.inr (.inr (.inr f)))))] := by
  unfold LW
  rw [if_neg (by omega)]
theorem LW_z {dA : Nat → ClassId} {b ed : Nat} {mc : Int32} {nc : Nat} {f : Nat → Option Nat} : LW dA b ed 0 mc nc f = [(b, .inr (2, [.int mc, .ref ed, .int (nI nc)]))] := rfl
theorem LW_at {dA : Nat → ClassId} {b ed cap : Nat} {mc : Int32} {nc : Nat} {f : Nat → Option Nat} {k : Nat} {q : Nat × va_E} (h : (LW dA b ed cap mc nc f)[k]? = some q) : q.1 = b ∨ (q.1 = ed ∧ 0 < cap) := by
  by_cases hc : cap = 0
  · subst hc
    rw [LW_z] at h
    match k, h with
    | 0, h => cases h; exact Or.inl rfl
    | k + 1, h => simp at h
  · rw [LW_c (by omega)] at h
    match k, h with
    | 0, h => cases h; exact Or.inl rfl
    | 1, h => cases h; exact Or.inr ⟨rfl, by omega⟩
    | k + 2, h => simp at h
