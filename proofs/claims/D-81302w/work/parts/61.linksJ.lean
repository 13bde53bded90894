/-! LINKSJ: the words of calls and fields, by program (gen/mklinks.py) -/
set_option maxRecDepth 100000
theorem wl_J2_66 : GoodIn lw_all (va_wsS RJ2 66 yJ17_copyOf (ws_ yJ17_copyOf cJ17_copyOf 2 (some (.array (Jvm.ClassFile.FieldType.object "java/lang/Object"))))) := lw_S q374 q375 q86 q376
theorem wd_J2_J17_copyOf : yJ17_copyOf.cls ≠ "java/lang/invoke/MethodHandle" ∧ yJ17_copyOf.cls ≠ "java/lang/invoke/VarHandle" ∧ (parseMethodDescriptor yJ17_copyOf.desc).map (fun d => d.parameters.length) = some 2 := by decide +kernel
theorem wl_J2_69 : GoodIn lw_all (wsV RJ2 69 RJ2 yJ2_grow_2 (ws_ yJ2_grow_2 cJ2_grow_2 4 (some (.array (Jvm.ClassFile.FieldType.object "java/lang/Object"))))) := lw_V q360 q362 qs8 q63 q363
theorem wd_J2_J2_grow_2 : yJ2_grow_2.cls = RJ2 ∧ yJ2_grow_2.cls ≠ "java/lang/invoke/MethodHandle" ∧ yJ2_grow_2.cls ≠ "java/lang/invoke/VarHandle" ∧ (parseMethodDescriptor yJ2_grow_2.desc).map (fun d => d.parameters.length) = some 1 := by decide +kernel
theorem wl_J2_73 : GoodIn lw_all (va_wsS RJ2 73 yJ16_newLength (ws_ yJ16_newLength cJ16_newLength 4 (some .int))) := lw_S q364 q365 q85 q366
theorem wd_J2_J16_newLength : yJ16_newLength.cls ≠ "java/lang/invoke/MethodHandle" ∧ yJ16_newLength.cls ≠ "java/lang/invoke/VarHandle" ∧ (parseMethodDescriptor yJ16_newLength.desc).map (fun d => d.parameters.length) = some 3 := by decide +kernel
theorem wl_J2_79 : GoodIn lw_all (va_wsS RJ2 79 yJ13_max (ws_ yJ13_max cJ13_max 2 (some .int))) := lw_S q412 q368 q78 q369
theorem wd_J2_J13_max : yJ13_max.cls ≠ "java/lang/invoke/MethodHandle" ∧ yJ13_max.cls ≠ "java/lang/invoke/VarHandle" ∧ (parseMethodDescriptor yJ13_max.desc).map (fun d => d.parameters.length) = some 2 := by decide +kernel
theorem wl_J2_118 : GoodIn lw_all (va_wsS RJ2 118 yJ14_checkIndex (ws_ yJ14_checkIndex cJ14_checkIndex 2 (some .int))) := lw_S q231 q232 q80 q233
theorem wd_J2_J14_checkIndex : yJ14_checkIndex.cls ≠ "java/lang/invoke/MethodHandle" ∧ yJ14_checkIndex.cls ≠ "java/lang/invoke/VarHandle" ∧ (parseMethodDescriptor yJ14_checkIndex.desc).map (fun d => d.parameters.length) = some 2 := by decide +kernel
theorem wl_J2_123 : GoodIn lw_all (wsV RJ2 123 RJ2 yJ2_elementData (ws_ yJ2_elementData cJ2_elementData 2 (some (.object "java/lang/Object")))) := lw_V q237 q238 q239 q63 q240
theorem wd_J2_J2_elementData : yJ2_elementData.cls = RJ2 ∧ yJ2_elementData.cls ≠ "java/lang/invoke/MethodHandle" ∧ yJ2_elementData.cls ≠ "java/lang/invoke/VarHandle" ∧ (parseMethodDescriptor yJ2_elementData.desc).map (fun d => d.parameters.length) = some 1 := by decide +kernel
theorem wl_J2_129 : GoodIn lw_all (wsV RJ2 129 RJ2 yJ2_grow (ws_ yJ2_grow cJ2_grow 1 (some (.array (Jvm.ClassFile.FieldType.object "java/lang/Object"))))) := lw_V q356 q358 qs7 q63 q359
theorem wd_J2_J2_grow : yJ2_grow.cls = RJ2 ∧ yJ2_grow.cls ≠ "java/lang/invoke/MethodHandle" ∧ yJ2_grow.cls ≠ "java/lang/invoke/VarHandle" ∧ (parseMethodDescriptor yJ2_grow.desc).map (fun d => d.parameters.length) = some 0 := by decide +kernel
theorem wl_J2_131 : GoodIn lw_all (wsV RJ2 131 RJ2 yJ2_add_2 (ws_ yJ2_add_2 cJ2_add_2 4 none)) := lw_V q352 q354 qs6 q63 q355
theorem wd_J2_J2_add_2 : yJ2_add_2.cls = RJ2 ∧ yJ2_add_2.cls ≠ "java/lang/invoke/MethodHandle" ∧ yJ2_add_2.cls ≠ "java/lang/invoke/VarHandle" ∧ (parseMethodDescriptor yJ2_add_2.desc).map (fun d => d.parameters.length) = some 3 := by decide +kernel
theorem wl_J2_144 : GoodIn lw_all (wsV RJ2 144 RJ2 yJ2_fastRemove (ws_ yJ2_fastRemove cJ2_fastRemove 4 none)) := lw_V q449 q451 qs9 q63 q452
theorem wd_J2_J2_fastRemove : yJ2_fastRemove.cls = RJ2 ∧ yJ2_fastRemove.cls ≠ "java/lang/invoke/MethodHandle" ∧ yJ2_fastRemove.cls ≠ "java/lang/invoke/VarHandle" ∧ (parseMethodDescriptor yJ2_fastRemove.desc).map (fun d => d.parameters.length) = some 2 := by decide +kernel
theorem fl_J2_9 : Cond.fieldLink RJ2 9 RJ2 (TJ2 1).2.1 (TJ2 1).2.2.1 ∈ lw_all := q116
theorem fl_J2_48 : Cond.fieldLink RJ2 48 RJ2 (TJ2 2).2.1 (TJ2 2).2.2.1 ∈ lw_all := q117
theorem wl_J14_105 : GoodIn lw_all (va_wsS RJ14 105 yJ15_checkIndex (ws_ yJ15_checkIndex cJ15_checkIndex 3 (some .int))) := lw_S q234 q235 q81 q236
theorem wd_J14_J15_checkIndex : yJ15_checkIndex.cls ≠ "java/lang/invoke/MethodHandle" ∧ yJ15_checkIndex.cls ≠ "java/lang/invoke/VarHandle" ∧ (parseMethodDescriptor yJ15_checkIndex.desc).map (fun d => d.parameters.length) = some 3 := by decide +kernel
section JR
variable {p : Program} {l : Launch} {e : Env} {R : Room} {s : State} {m : MethodId} {args : Array Value} {below : List Frame} {meth : Method} {c : Code} {H : Heap} {locs : List Loc} {cells slots : Nat} {Q : State → Prop}
variable {cc : ByteArray} {pc nL : Nat} {ls : Array Slot} {rest : List Value} {D : va_G} {dA : Nat → ClassId} {own : String}
theorem topv {x z : Value} (h : x = z) (k : W p l e R s m args below meth c H locs cells slots Q (F0 m pc ls (z :: rest))) : W p l e R s m args below meth c H locs cells slots Q (F0 m pc ls (x :: rest)) := h ▸ k
/-- calls whose answer is a value that is known -/
theorem rc_Vr {y : MethodName} {code : ByteArray} {n index : Nat} {ret : Option FieldType} {fr lc : Nat} {Ph : Heap → Prop} {X : Value} {C : String} {b : Nat} (As : List Value) (nn : Nat) (S : CallFix p m c cc nL s args lw_all own) (hK : va_K D vwCl (tyL dA) s) (hC : RC l y code n ret fr lc D dA (.ref b :: As) Ph (fun v => v = some X))
    (hw : GoodIn lw_all (wsV own index C y (ws_ y code n ret))) (hd : y.cls = C ∧ y.cls ≠ "java/lang/invoke/MethodHandle" ∧ y.cls ≠ "java/lang/invoke/VarHandle" ∧ (parseMethodDescriptor y.desc).map (fun d => d.parameters.length) = some nn) (hn : As.length = nn) (hR : fr + 1 ≤ R.frames ∧ 8 + (n + 11) + lc ≤ R.locals)
    (hrc : ∃ cell : Cell, H[b]? = some cell ∧ cell.vm.isStatics = false ∧ s.vm.findClass C = some cell.cls)
    (hsz : ls.size = nL) (hst : (rest.map fun v => v.category).sum ≤ 8) (hdg : decode cc pc = .ok (.invokevirtual index, 3)) (hf : cells ≤ R.cells ∧ slots ≤ R.slots) (hPh : Ph H)
    (kk : W p l e R s m args below meth c H locs cells slots Q (F0 m (pc + 3) ls (X :: rest))) {st : List Value} (hs : st = As.reverse ++ .ref b :: rest) : W p l e R s m args below meth c H locs cells slots Q (F0 m pc ls st) :=
  rc_V As nn S hK hC hw hd hn hR hrc hsz hst hdg hf hPh (fun v hv => by subst hv; exact kk) hs
theorem rc_Fr {x y : MethodName} {code : ByteArray} {n index count : Nat} {ret : Option FieldType} {fr lc : Nat} {Ph : Heap → Prop} {X : Value} {C : String} {cC : ClassId} {b : Nat} (As : List Value) (nn : Nat) (S : CallFix p m c cc nL s args lw_all own) (hK : va_K D vwCl (tyL dA) s) (hat : ClassAt s C cC) (hF : va_Fw C x y s) (hC : RC l y code n ret fr lc D dA (.ref b :: As) Ph (fun v => v = some X))
    (hw : GoodIn lw_all (va_wsF own index C x y (ws_ y code n ret))) (hd : x.cls ≠ "java/lang/invoke/MethodHandle" ∧ x.cls ≠ "java/lang/invoke/VarHandle" ∧ (parseMethodDescriptor x.desc).map (fun d => d.parameters.length) = some nn) (hn : As.length = nn) (hR : fr + 1 ≤ R.frames ∧ 8 + (n + 11) + lc ≤ R.locals)
    (hrc : ∃ cell : Cell, H[b]? = some cell ∧ cell.vm.isStatics = false ∧ s.vm.findClass C = some cell.cls)
    (hsz : ls.size = nL) (hst : (rest.map fun v => v.category).sum ≤ 8) (hdg : decode cc pc = .ok (.invokeinterface index count, 5)) (hf : cells ≤ R.cells ∧ slots ≤ R.slots) (hPh : Ph H)
    (kk : W p l e R s m args below meth c H locs cells slots Q (F0 m (pc + 5) ls (X :: rest))) {st : List Value} (hs : st = As.reverse ++ .ref b :: rest) : W p l e R s m args below meth c H locs cells slots Q (F0 m pc ls st) :=
  rc_F As nn S hK hat hF hC hw hd hn hR hrc hsz hst hdg hf hPh (fun v hv => by subst hv; exact kk) hs
end JR
